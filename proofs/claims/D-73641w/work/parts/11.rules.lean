/-! RULES: one an instruction -/
set_option maxRecDepth 100000
theorem rr_le_iff {a b : Int} (ha : -2147483648 ≤ a ∧ a < 2147483648) (hb : -2147483648 ≤ b ∧ b < 2147483648) : Int32.ofInt a ≤ Int32.ofInt b ↔ a ≤ b := by
  rw [Int32.le_iff_toInt_le, Int32.toInt_ofInt_of_le (by omega) (by omega), Int32.toInt_ofInt_of_le (by omega) (by omega)]
theorem rr_lt_iff {a b : Int} (ha : -2147483648 ≤ a ∧ a < 2147483648) (hb : -2147483648 ≤ b ∧ b < 2147483648) : Int32.ofInt a < Int32.ofInt b ↔ a < b := by
  rw [Int32.lt_iff_toInt_lt, Int32.toInt_ofInt_of_le (by omega) (by omega), Int32.toInt_ofInt_of_le (by omega) (by omega)]
theorem rr_eq_iff {a b : Int} (ha : -2147483648 ≤ a ∧ a < 2147483648) (hb : -2147483648 ≤ b ∧ b < 2147483648) : Int32.ofInt a = Int32.ofInt b ↔ a = b := by
  rw [← Int32.toInt_inj, Int32.toInt_ofInt_of_le (by omega) (by omega), Int32.toInt_ofInt_of_le (by omega) (by omega)]
theorem rr_0 : (0 : Int32) = Int32.ofInt 0 := by decide
theorem rr_le_iffL {a b : Int} (ha : -9223372036854775808 ≤ a ∧ a < 9223372036854775808) (hb : -9223372036854775808 ≤ b ∧ b < 9223372036854775808) : Int64.ofInt a ≤ Int64.ofInt b ↔ a ≤ b := by
  rw [Int64.le_iff_toInt_le, Int64.toInt_ofInt_of_le (by omega) (by omega), Int64.toInt_ofInt_of_le (by omega) (by omega)]
theorem rr_lt_iffL {a b : Int} (ha : -9223372036854775808 ≤ a ∧ a < 9223372036854775808) (hb : -9223372036854775808 ≤ b ∧ b < 9223372036854775808) : Int64.ofInt a < Int64.ofInt b ↔ a < b := by
  rw [Int64.lt_iff_toInt_lt, Int64.toInt_ofInt_of_le (by omega) (by omega), Int64.toInt_ofInt_of_le (by omega) (by omega)]
theorem rr_clamp {z : Int} (h0 : 0 ≤ z) (h : z < 2147483648) : (Int32.ofInt z).toNatClampNeg = z.toNat := by
  rw [Int32.toNatClampNeg, Int32.toInt_ofInt_of_le (by omega) (by omega)]
theorem rr_div {a b : Int} (ha : 0 ≤ a ∧ a < 2147483648) (hb : 0 < b ∧ b < 2147483648) : Int32.ofInt a / Int32.ofInt b = Int32.ofInt (a / b) := by
  have h1 : (Int32.ofInt a / Int32.ofInt b).toInt = (Int32.ofInt (a / b)).toInt := by
    have h2 : a / b ≤ a := Int.ediv_le_self _ ha.1
    have h3 : 0 ≤ a / b := Int.ediv_nonneg ha.1 (by omega)
    rw [Int32.toInt_div, Int32.toInt_ofInt_of_le (by omega) (by omega), Int32.toInt_ofInt_of_le (by omega) (by omega), Int32.toInt_ofInt_of_le (by omega) (by omega), Int.tdiv_eq_ediv_of_nonneg ha.1]
    rw [Int.bmod_eq_of_le] <;> omega
  exact Int32.toInt_inj.mp h1
theorem rr_rem {a b : Int} (ha : 0 ≤ a ∧ a < 2147483648) (hb : 0 < b ∧ b < 2147483648) : Int32.ofInt a - Int32.ofInt a / Int32.ofInt b * Int32.ofInt b = Int32.ofInt (a % b) := by
  rw [rr_div ha hb, ← Int32.ofInt_mul, ← Int32.ofInt_sub, Int.emod_def, Int.mul_comm (a / b) b]
theorem rr_divL {a b : Int} (ha : 0 ≤ a ∧ a < 9223372036854775808) (hb : 0 < b ∧ b < 9223372036854775808) : Int64.ofInt a / Int64.ofInt b = Int64.ofInt (a / b) := by
  have h1 : (Int64.ofInt a / Int64.ofInt b).toInt = (Int64.ofInt (a / b)).toInt := by
    have h2 : a / b ≤ a := Int.ediv_le_self _ ha.1
    have h3 : 0 ≤ a / b := Int.ediv_nonneg ha.1 (by omega)
    rw [Int64.toInt_div, Int64.toInt_ofInt_of_le (by omega) (by omega), Int64.toInt_ofInt_of_le (by omega) (by omega), Int64.toInt_ofInt_of_le (by omega) (by omega), Int.tdiv_eq_ediv_of_nonneg ha.1]
    rw [Int.bmod_eq_of_le] <;> omega
  exact Int64.toInt_inj.mp h1
theorem rr_remL {a b : Int} (ha : 0 ≤ a ∧ a < 9223372036854775808) (hb : 0 < b ∧ b < 9223372036854775808) : Int64.ofInt a - Int64.ofInt a / Int64.ofInt b * Int64.ofInt b = Int64.ofInt (a % b) := by
  rw [rr_divL ha hb, ← Int64.ofInt_mul, ← Int64.ofInt_sub, Int.emod_def, Int.mul_comm (a / b) b]
def rr_and (a b : Int) : Int := (Int32.ofInt a &&& Int32.ofInt b).toInt
def rr_or (a b : Int) : Int := (Int32.ofInt a ||| Int32.ofInt b).toInt
def rr_xor (a b : Int) : Int := (Int32.ofInt a ^^^ Int32.ofInt b).toInt
def rr_shl (a b : Int) : Int := (Int32.ofInt a <<< (Int32.ofInt b &&& 31)).toInt
def rr_shr (a b : Int) : Int := (Int32.ofInt a >>> (Int32.ofInt b &&& 31)).toInt
def rr_ushr (a b : Int) : Int := ((Int32.ofInt a).toUInt32 >>> ((Int32.ofInt b).toUInt32 &&& Int32.toUInt32 31)).toInt32.toInt
def rr_i2b (a : Int) : Int := (Int32.ofInt a).toInt8.toInt32.toInt
def rr_i2c (a : Int) : Int := ((Int32.ofInt a).toUInt32 % 65536).toInt32.toInt
theorem rr_oi (x : Int32) : Int32.ofInt x.toInt = x := Int32.ofInt_toInt x
section RULES
variable {G : rr_G} {y : MethodName} {cc : ByteArray} {nL : Nat} {ret : Option FieldType} {d mc ms : Nat} {Post : Option rr_V → rr_H → Nat → Prop} {Q : List Frame → Array Value → State → State → Prop} {pc : Nat} {ls : List (Option rr_V)} {st : List rr_V} {h : rr_H} {nx cu su : Nat}

theorem x_iconst {n : Int} (dg : decode cc pc = .ok (.iconst n, 1)) (k : rr_R G y cc nL ret d mc ms Q (pc + 1) ls (vI n :: st) h nx cu su) : rr_R G y cc nL ret d mc ms Q pc ls st h nx cu su := fun p e s m args below meth c H locs la hC hr hS hL => lv_iconst hC.1 hC.2.1 dg rfl (k p e s m args below meth c H locs la hC hr hS hL)
theorem x_bipush {n : Int} (dg : decode cc pc = .ok (.bipush n, 2)) (hv : (Int8.ofInt n).toInt32 = Int32.ofInt n) (k : rr_R G y cc nL ret d mc ms Q (pc + 2) ls (vI n :: st) h nx cu su) : rr_R G y cc nL ret d mc ms Q pc ls st h nx cu su := fun p e s m args below meth c H locs la hC hr hS hL => lv_bipush hC.1 hC.2.1 dg hv (k p e s m args below meth c H locs la hC hr hS hL)
theorem x_sipush {n : Int} (dg : decode cc pc = .ok (.sipush n, 3)) (hv : (Int16.ofInt n).toInt32 = Int32.ofInt n) (k : rr_R G y cc nL ret d mc ms Q (pc + 3) ls (vI n :: st) h nx cu su) : rr_R G y cc nL ret d mc ms Q pc ls st h nx cu su := fun p e s m args below meth c H locs la hC hr hS hL => lv_sipush hC.1 hC.2.1 dg hv (k p e s m args below meth c H locs la hC hr hS hL)
theorem x_lconst {n : Fin 2} {z : Int} (dg : decode cc pc = .ok (.lconst n, 1)) (hv : Int64.ofNat (n : Nat) = Int64.ofInt z) (k : rr_R G y cc nL ret d mc ms Q (pc + 1) ls (vJ z :: st) h nx cu su) : rr_R G y cc nL ret d mc ms Q pc ls st h nx cu su := fun p e s m args below meth c H locs la hC hr hS hL => lv_lconst hC.1 hC.2.1 dg hv (k p e s m args below meth c H locs la hC hr hS hL)
theorem x_ldc {i : Nat} {z : Int} {v : Int32} (hq : Cond.constant y.cls i v ∈ lw_all) (dg : decode cc pc = .ok (.ldc i, 2)) (hv : v = Int32.ofInt z) (k : rr_R G y cc nL ret d mc ms Q (pc + 2) ls (vI z :: st) h nx cu su) : rr_R G y cc nL ret d mc ms Q pc ls st h nx cu su := fun p e s m args below meth c H locs la hC hr hS hL => lv_ldc hC.1 hC.2.1 hC.2.2.2.2.1 (hC.2.2.2.2.2.1 _ (hv ▸ hq)) dg (k p e s m args below meth c H locs la hC hr hS hL)
theorem x_ldcw {i : Nat} {z : Int} {v : Int32} (hq : Cond.constant y.cls i v ∈ lw_all) (dg : decode cc pc = .ok (.ldc_w i, 3)) (hv : v = Int32.ofInt z) (k : rr_R G y cc nL ret d mc ms Q (pc + 3) ls (vI z :: st) h nx cu su) : rr_R G y cc nL ret d mc ms Q pc ls st h nx cu su := fun p e s m args below meth c H locs la hC hr hS hL => lv_ldcw hC.1 hC.2.1 hC.2.2.2.2.1 (hC.2.2.2.2.2.1 _ (hv ▸ hq)) dg (k p e s m args below meth c H locs la hC hr hS hL)
theorem x_ldc2 {i : Nat} {z : Int} {v : Int64} (hq : Cond.constantLong y.cls i v ∈ lw_all) (dg : decode cc pc = .ok (.ldc2_w i, 3)) (hv : v = Int64.ofInt z) (k : rr_R G y cc nL ret d mc ms Q (pc + 3) ls (vJ z :: st) h nx cu su) : rr_R G y cc nL ret d mc ms Q pc ls st h nx cu su := fun p e s m args below meth c H locs la hC hr hS hL => lv_ldc2 hC.1 hC.2.1 hC.2.2.2.2.1 (hC.2.2.2.2.2.1 _ (hv ▸ hq)) dg (k p e s m args below meth c H locs la hC hr hS hL)
theorem x_iload_n {i : Fin 4} {z : Int} (dg : decode cc pc = .ok (.iload_n i, 1)) (hl : ls[(i : Nat)]? = some (some (vI z))) (k : rr_R G y cc nL ret d mc ms Q (pc + 1) ls (vI z :: st) h nx cu su) : rr_R G y cc nL ret d mc ms Q pc ls st h nx cu su := fun p e s m args below meth c H locs la hC hr hS hL => lv_iload_n hC.1 hC.2.1 dg rfl (hL.at hl) (k p e s m args below meth c H locs la hC hr hS hL)
theorem x_iload {i : Nat} {z : Int} (dg : decode cc pc = .ok (.iload i, 2)) (hl : ls[i]? = some (some (vI z))) (k : rr_R G y cc nL ret d mc ms Q (pc + 2) ls (vI z :: st) h nx cu su) : rr_R G y cc nL ret d mc ms Q pc ls st h nx cu su := fun p e s m args below meth c H locs la hC hr hS hL => lv_iload hC.1 hC.2.1 dg (hL.at hl) (k p e s m args below meth c H locs la hC hr hS hL)
theorem x_aload_n {i : Fin 4} {r : Option Nat} (dg : decode cc pc = .ok (.aload_n i, 1)) (hl : ls[(i : Nat)]? = some (some (vR r))) (k : rr_R G y cc nL ret d mc ms Q (pc + 1) ls (vR r :: st) h nx cu su) : rr_R G y cc nL ret d mc ms Q pc ls st h nx cu su := by
  intro p e s m args below meth c H locs la hC hr hS hL
  have kk := (k p e s m args below meth c H locs la hC hr hS hL)
  have hx := hL.at hl
  cases r with
  | none => exact lv_aload_nN hC.1 hC.2.1 dg rfl hx kk
  | some x => exact lv_aload_n hC.1 hC.2.1 dg rfl hx kk
theorem x_aload {i : Nat} {r : Option Nat} (dg : decode cc pc = .ok (.aload i, 2)) (hl : ls[i]? = some (some (vR r))) (k : rr_R G y cc nL ret d mc ms Q (pc + 2) ls (vR r :: st) h nx cu su) : rr_R G y cc nL ret d mc ms Q pc ls st h nx cu su := by
  intro p e s m args below meth c H locs la hC hr hS hL
  have kk := (k p e s m args below meth c H locs la hC hr hS hL)
  have hx := hL.at hl
  cases r with
  | none => exact lv_aloadN hC.1 hC.2.1 dg hx kk
  | some x => exact lv_aload hC.1 hC.2.1 dg hx kk
theorem x_istore_n {i : Fin 4} {z : Int} (dg : decode cc pc = .ok (.istore_n i, 1)) (hi : (i : Nat) < nL) (k : rr_R G y cc nL ret d mc ms Q (pc + 1) (ls.set (i : Nat) (some (vI z))) st h nx cu su) : rr_R G y cc nL ret d mc ms Q pc ls (vI z :: st) h nx cu su := by
  intro p e s m args below meth c H locs la hC hr hS hL
  exact lv_istore_n hC.1 hC.2.1 dg rfl hL.1 hi rfl (fun la' h' => k p e s m args below meth c H locs la' hC hr hS (hL.set (v := vI z) rfl h'))
theorem x_istore {i : Nat} {z : Int} (dg : decode cc pc = .ok (.istore i, 2)) (hi : i < nL) (k : rr_R G y cc nL ret d mc ms Q (pc + 2) (ls.set i (some (vI z))) st h nx cu su) : rr_R G y cc nL ret d mc ms Q pc ls (vI z :: st) h nx cu su := by
  intro p e s m args below meth c H locs la hC hr hS hL
  exact lv_istore hC.1 hC.2.1 dg hL.1 hi rfl (fun la' h' => k p e s m args below meth c H locs la' hC hr hS (hL.set (v := vI z) rfl h'))
theorem x_astore_n {i : Fin 4} {r : Option Nat} (dg : decode cc pc = .ok (.astore_n i, 1)) (hi : (i : Nat) < nL) (k : rr_R G y cc nL ret d mc ms Q (pc + 1) (ls.set (i : Nat) (some (vR r))) st h nx cu su) : rr_R G y cc nL ret d mc ms Q pc ls (vR r :: st) h nx cu su := by
  intro p e s m args below meth c H locs la hC hr hS hL
  cases r with
  | none => exact lv_astore_nN hC.1 hC.2.1 dg rfl hL.1 hi rfl (fun la' h' => k p e s m args below meth c H locs la' hC hr hS (hL.set (v := vR none) rfl h'))
  | some x => exact lv_astore_n hC.1 hC.2.1 dg rfl hL.1 hi rfl (fun la' h' => k p e s m args below meth c H locs la' hC hr hS (hL.set (v := vR (some x)) rfl h'))
theorem x_astore {i : Nat} {r : Option Nat} (dg : decode cc pc = .ok (.astore i, 2)) (hi : i < nL) (k : rr_R G y cc nL ret d mc ms Q (pc + 2) (ls.set i (some (vR r))) st h nx cu su) : rr_R G y cc nL ret d mc ms Q pc ls (vR r :: st) h nx cu su := by
  intro p e s m args below meth c H locs la hC hr hS hL
  cases r with
  | none => exact lv_astoreN hC.1 hC.2.1 dg hL.1 hi rfl (fun la' h' => k p e s m args below meth c H locs la' hC hr hS (hL.set (v := vR none) rfl h'))
  | some x => exact lv_astore hC.1 hC.2.1 dg hL.1 hi rfl (fun la' h' => k p e s m args below meth c H locs la' hC hr hS (hL.set (v := vR (some x)) rfl h'))
theorem x_iinc {i : Nat} {n z : Int} (dg : decode cc pc = .ok (.iinc i n, 3)) (hl : ls[i]? = some (some (vI z))) (hi : i < nL) (k : rr_R G y cc nL ret d mc ms Q (pc + 3) (ls.set i (some (vI (z + n)))) st h nx cu su) : rr_R G y cc nL ret d mc ms Q pc ls st h nx cu su := by
  intro p e s m args below meth c H locs la hC hr hS hL
  obtain ⟨q, hq⟩ := List.getElem?_of_mem ((rr_as_mem G ls 0 _).mpr ⟨i, vI z, hl, rfl⟩)
  exact lv_iinc (v := Int32.ofInt (z + n)) (k := q) hC.1 hC.2.1 dg hL.1 (by rw [hq]; simp [rr_g]) (Int32.ofInt_add z n).symm hi rfl (fun la' h' => k p e s m args below meth c H locs la' hC hr hS (hL.set (v := vI (z + n)) rfl h'))
theorem x_iadd {a b : Int} (dg : decode cc pc = .ok (.iadd, 1)) (k : rr_R G y cc nL ret d mc ms Q (pc + 1) ls (vI (a + b) :: st) h nx cu su) : rr_R G y cc nL ret d mc ms Q pc ls (vI b :: vI a :: st) h nx cu su := by
  intro p e s m args below meth c H locs la hC hr hS hL
  have kk := (k p e s m args below meth c H locs la hC hr hS hL)
  rw [show (vI (a + b) :: st).map (rr_g G) = .int (Int32.ofInt (a + b)) :: st.map (rr_g G) from rfl, (Int32.ofInt_add a b)] at kk
  exact lv_iadd hC.1 hC.2.1 dg kk
theorem x_isub {a b : Int} (dg : decode cc pc = .ok (.isub, 1)) (k : rr_R G y cc nL ret d mc ms Q (pc + 1) ls (vI (a - b) :: st) h nx cu su) : rr_R G y cc nL ret d mc ms Q pc ls (vI b :: vI a :: st) h nx cu su := by
  intro p e s m args below meth c H locs la hC hr hS hL
  have kk := (k p e s m args below meth c H locs la hC hr hS hL)
  rw [show (vI (a - b) :: st).map (rr_g G) = .int (Int32.ofInt (a - b)) :: st.map (rr_g G) from rfl, (Int32.ofInt_sub a b)] at kk
  exact lv_isub hC.1 hC.2.1 dg kk
theorem x_imul {a b : Int} (dg : decode cc pc = .ok (.imul, 1)) (k : rr_R G y cc nL ret d mc ms Q (pc + 1) ls (vI (a * b) :: st) h nx cu su) : rr_R G y cc nL ret d mc ms Q pc ls (vI b :: vI a :: st) h nx cu su := by
  intro p e s m args below meth c H locs la hC hr hS hL
  have kk := (k p e s m args below meth c H locs la hC hr hS hL)
  rw [show (vI (a * b) :: st).map (rr_g G) = .int (Int32.ofInt (a * b)) :: st.map (rr_g G) from rfl, (Int32.ofInt_mul a b)] at kk
  exact lv_imul hC.1 hC.2.1 dg kk
theorem x_iand {a b : Int} (dg : decode cc pc = .ok (.iand, 1)) (k : rr_R G y cc nL ret d mc ms Q (pc + 1) ls (vI (rr_and a b) :: st) h nx cu su) : rr_R G y cc nL ret d mc ms Q pc ls (vI b :: vI a :: st) h nx cu su := by
  intro p e s m args below meth c H locs la hC hr hS hL
  have kk := (k p e s m args below meth c H locs la hC hr hS hL)
  rw [show (vI (rr_and a b) :: st).map (rr_g G) = .int (Int32.ofInt (rr_and a b)) :: st.map (rr_g G) from rfl, rr_and, rr_oi] at kk
  exact lv_iand hC.1 hC.2.1 dg kk
theorem x_ior {a b : Int} (dg : decode cc pc = .ok (.ior, 1)) (k : rr_R G y cc nL ret d mc ms Q (pc + 1) ls (vI (rr_or a b) :: st) h nx cu su) : rr_R G y cc nL ret d mc ms Q pc ls (vI b :: vI a :: st) h nx cu su := by
  intro p e s m args below meth c H locs la hC hr hS hL
  have kk := (k p e s m args below meth c H locs la hC hr hS hL)
  rw [show (vI (rr_or a b) :: st).map (rr_g G) = .int (Int32.ofInt (rr_or a b)) :: st.map (rr_g G) from rfl, rr_or, rr_oi] at kk
  exact lv_ior hC.1 hC.2.1 dg kk
theorem x_ixor {a b : Int} (dg : decode cc pc = .ok (.ixor, 1)) (k : rr_R G y cc nL ret d mc ms Q (pc + 1) ls (vI (rr_xor a b) :: st) h nx cu su) : rr_R G y cc nL ret d mc ms Q pc ls (vI b :: vI a :: st) h nx cu su := by
  intro p e s m args below meth c H locs la hC hr hS hL
  have kk := (k p e s m args below meth c H locs la hC hr hS hL)
  rw [show (vI (rr_xor a b) :: st).map (rr_g G) = .int (Int32.ofInt (rr_xor a b)) :: st.map (rr_g G) from rfl, rr_xor, rr_oi] at kk
  exact lv_ixor hC.1 hC.2.1 dg kk
theorem x_ishl {a b : Int} (dg : decode cc pc = .ok (.ishl, 1)) (k : rr_R G y cc nL ret d mc ms Q (pc + 1) ls (vI (rr_shl a b) :: st) h nx cu su) : rr_R G y cc nL ret d mc ms Q pc ls (vI b :: vI a :: st) h nx cu su := by
  intro p e s m args below meth c H locs la hC hr hS hL
  have kk := (k p e s m args below meth c H locs la hC hr hS hL)
  rw [show (vI (rr_shl a b) :: st).map (rr_g G) = .int (Int32.ofInt (rr_shl a b)) :: st.map (rr_g G) from rfl, rr_shl, rr_oi] at kk
  exact lv_ishl hC.1 hC.2.1 dg kk
theorem x_ishr {a b : Int} (dg : decode cc pc = .ok (.ishr, 1)) (k : rr_R G y cc nL ret d mc ms Q (pc + 1) ls (vI (rr_shr a b) :: st) h nx cu su) : rr_R G y cc nL ret d mc ms Q pc ls (vI b :: vI a :: st) h nx cu su := by
  intro p e s m args below meth c H locs la hC hr hS hL
  have kk := (k p e s m args below meth c H locs la hC hr hS hL)
  rw [show (vI (rr_shr a b) :: st).map (rr_g G) = .int (Int32.ofInt (rr_shr a b)) :: st.map (rr_g G) from rfl, rr_shr, rr_oi] at kk
  exact lv_ishr hC.1 hC.2.1 dg kk
theorem x_iushr {a b : Int} (dg : decode cc pc = .ok (.iushr, 1)) (k : rr_R G y cc nL ret d mc ms Q (pc + 1) ls (vI (rr_ushr a b) :: st) h nx cu su) : rr_R G y cc nL ret d mc ms Q pc ls (vI b :: vI a :: st) h nx cu su := by
  intro p e s m args below meth c H locs la hC hr hS hL
  have kk := (k p e s m args below meth c H locs la hC hr hS hL)
  rw [show (vI (rr_ushr a b) :: st).map (rr_g G) = .int (Int32.ofInt (rr_ushr a b)) :: st.map (rr_g G) from rfl, rr_ushr, rr_oi] at kk
  exact lv_iushr hC.1 hC.2.1 dg rfl kk
theorem x_i2b {a : Int} (dg : decode cc pc = .ok (.i2b, 1)) (k : rr_R G y cc nL ret d mc ms Q (pc + 1) ls (vI (rr_i2b a) :: st) h nx cu su) : rr_R G y cc nL ret d mc ms Q pc ls (vI a :: st) h nx cu su := by
  intro p e s m args below meth c H locs la hC hr hS hL
  have kk := (k p e s m args below meth c H locs la hC hr hS hL)
  rw [show (vI (rr_i2b a) :: st).map (rr_g G) = .int (Int32.ofInt (rr_i2b a)) :: st.map (rr_g G) from rfl, rr_i2b, rr_oi] at kk
  exact lv_i2b hC.1 hC.2.1 dg rfl kk
theorem x_i2c {a : Int} (dg : decode cc pc = .ok (.i2c, 1)) (k : rr_R G y cc nL ret d mc ms Q (pc + 1) ls (vI (rr_i2c a) :: st) h nx cu su) : rr_R G y cc nL ret d mc ms Q pc ls (vI a :: st) h nx cu su := by
  intro p e s m args below meth c H locs la hC hr hS hL
  have kk := (k p e s m args below meth c H locs la hC hr hS hL)
  rw [show (vI (rr_i2c a) :: st).map (rr_g G) = .int (Int32.ofInt (rr_i2c a)) :: st.map (rr_g G) from rfl, rr_i2c, rr_oi] at kk
  exact lv_i2c hC.1 hC.2.1 dg rfl kk
theorem x_ineg {a : Int} (dg : decode cc pc = .ok (.ineg, 1)) (k : rr_R G y cc nL ret d mc ms Q (pc + 1) ls (vI (-a) :: st) h nx cu su) : rr_R G y cc nL ret d mc ms Q pc ls (vI a :: st) h nx cu su := by
  intro p e s m args below meth c H locs la hC hr hS hL
  have kk := (k p e s m args below meth c H locs la hC hr hS hL)
  rw [show (vI (-a) :: st).map (rr_g G) = .int (Int32.ofInt (-a)) :: st.map (rr_g G) from rfl, Int32.ofInt_neg] at kk
  exact lv_ineg hC.1 hC.2.1 dg kk
theorem x_idiv {a b : Int} (dg : decode cc pc = .ok (.idiv, 1)) (ha : 0 ≤ a ∧ a < 2147483648) (hb : 0 < b ∧ b < 2147483648) (k : rr_R G y cc nL ret d mc ms Q (pc + 1) ls (vI (a / b) :: st) h nx cu su) : rr_R G y cc nL ret d mc ms Q pc ls (vI b :: vI a :: st) h nx cu su := by
  intro p e s m args below meth c H locs la hC hr hS hL
  have kk := (k p e s m args below meth c H locs la hC hr hS hL)
  rw [show (vI (a / b) :: st).map (rr_g G) = .int (Int32.ofInt (a / b)) :: st.map (rr_g G) from rfl, ← rr_div ha hb] at kk
  exact lv_idiv hC.1 hC.2.1 dg (fun q => by rw [rr_0, rr_eq_iff (by omega) (by omega)] at q; omega) kk
theorem x_irem {a b : Int} (dg : decode cc pc = .ok (.irem, 1)) (ha : 0 ≤ a ∧ a < 2147483648) (hb : 0 < b ∧ b < 2147483648) (k : rr_R G y cc nL ret d mc ms Q (pc + 1) ls (vI (a % b) :: st) h nx cu su) : rr_R G y cc nL ret d mc ms Q pc ls (vI b :: vI a :: st) h nx cu su := by
  intro p e s m args below meth c H locs la hC hr hS hL
  have kk := (k p e s m args below meth c H locs la hC hr hS hL)
  rw [show (vI (a % b) :: st).map (rr_g G) = .int (Int32.ofInt (a % b)) :: st.map (rr_g G) from rfl, ← rr_rem ha hb] at kk
  exact lv_irem hC.1 hC.2.1 dg (fun q => by rw [rr_0, rr_eq_iff (by omega) (by omega)] at q; omega) kk
theorem x_ladd {a b : Int} (dg : decode cc pc = .ok (.ladd, 1)) (k : rr_R G y cc nL ret d mc ms Q (pc + 1) ls (vJ (a + b) :: st) h nx cu su) : rr_R G y cc nL ret d mc ms Q pc ls (vJ b :: vJ a :: st) h nx cu su := by
  intro p e s m args below meth c H locs la hC hr hS hL
  have kk := (k p e s m args below meth c H locs la hC hr hS hL)
  rw [show (vJ (a + b) :: st).map (rr_g G) = .long (Int64.ofInt (a + b)) :: st.map (rr_g G) from rfl, (Int64.ofInt_add a b)] at kk
  exact lv_ladd hC.1 hC.2.1 dg kk
theorem x_lsub {a b : Int} (dg : decode cc pc = .ok (.lsub, 1)) (k : rr_R G y cc nL ret d mc ms Q (pc + 1) ls (vJ (a - b) :: st) h nx cu su) : rr_R G y cc nL ret d mc ms Q pc ls (vJ b :: vJ a :: st) h nx cu su := by
  intro p e s m args below meth c H locs la hC hr hS hL
  have kk := (k p e s m args below meth c H locs la hC hr hS hL)
  rw [show (vJ (a - b) :: st).map (rr_g G) = .long (Int64.ofInt (a - b)) :: st.map (rr_g G) from rfl, (Int64.ofInt_sub a b)] at kk
  exact lv_lsub hC.1 hC.2.1 dg kk
theorem x_lmul {a b : Int} (dg : decode cc pc = .ok (.lmul, 1)) (k : rr_R G y cc nL ret d mc ms Q (pc + 1) ls (vJ (a * b) :: st) h nx cu su) : rr_R G y cc nL ret d mc ms Q pc ls (vJ b :: vJ a :: st) h nx cu su := by
  intro p e s m args below meth c H locs la hC hr hS hL
  have kk := (k p e s m args below meth c H locs la hC hr hS hL)
  rw [show (vJ (a * b) :: st).map (rr_g G) = .long (Int64.ofInt (a * b)) :: st.map (rr_g G) from rfl, (Int64.ofInt_mul a b)] at kk
  exact lv_lmul hC.1 hC.2.1 dg kk
theorem x_ldiv {a b : Int} (dg : decode cc pc = .ok (.ldiv, 1)) (ha : 0 ≤ a ∧ a < 9223372036854775808) (hb : 0 < b ∧ b < 9223372036854775808) (k : rr_R G y cc nL ret d mc ms Q (pc + 1) ls (vJ (a / b) :: st) h nx cu su) : rr_R G y cc nL ret d mc ms Q pc ls (vJ b :: vJ a :: st) h nx cu su := by
  intro p e s m args below meth c H locs la hC hr hS hL
  have kk := (k p e s m args below meth c H locs la hC hr hS hL)
  rw [show (vJ (a / b) :: st).map (rr_g G) = .long (Int64.ofInt (a / b)) :: st.map (rr_g G) from rfl, ← rr_divL ha hb] at kk
  exact lv_ldiv hC.1 hC.2.1 dg (fun q => by
    have q2 := congrArg Int64.toInt q
    rw [Int64.toInt_ofInt_of_le (by omega) (by omega)] at q2
    have : (0 : Int64).toInt = 0 := by decide
    omega) kk
theorem x_lrem {a b : Int} (dg : decode cc pc = .ok (.lrem, 1)) (ha : 0 ≤ a ∧ a < 9223372036854775808) (hb : 0 < b ∧ b < 9223372036854775808) (k : rr_R G y cc nL ret d mc ms Q (pc + 1) ls (vJ (a % b) :: st) h nx cu su) : rr_R G y cc nL ret d mc ms Q pc ls (vJ b :: vJ a :: st) h nx cu su := by
  intro p e s m args below meth c H locs la hC hr hS hL
  have kk := (k p e s m args below meth c H locs la hC hr hS hL)
  rw [show (vJ (a % b) :: st).map (rr_g G) = .long (Int64.ofInt (a % b)) :: st.map (rr_g G) from rfl, ← rr_remL ha hb] at kk
  exact lv_lrem hC.1 hC.2.1 dg (fun q => by
    have q2 := congrArg Int64.toInt q
    rw [Int64.toInt_ofInt_of_le (by omega) (by omega)] at q2
    have : (0 : Int64).toInt = 0 := by decide
    omega) kk
theorem x_i2l {a : Int} (dg : decode cc pc = .ok (.i2l, 1)) (ha : -2147483648 ≤ a ∧ a < 2147483648) (k : rr_R G y cc nL ret d mc ms Q (pc + 1) ls (vJ a :: st) h nx cu su) : rr_R G y cc nL ret d mc ms Q pc ls (vI a :: st) h nx cu su := by
  intro p e s m args below meth c H locs la hC hr hS hL
  refine lv_i2l hC.1 hC.2.1 dg ?_ (k p e s m args below meth c H locs la hC hr hS hL)
  apply Int64.toInt_inj.mp
  rw [Int32.toInt_toInt64, Int32.toInt_ofInt_of_le (by omega) (by omega), Int64.toInt_ofInt_of_le (by omega) (by omega)]
theorem x_l2i {a : Int} (dg : decode cc pc = .ok (.l2i, 1)) (k : rr_R G y cc nL ret d mc ms Q (pc + 1) ls (vI a :: st) h nx cu su) : rr_R G y cc nL ret d mc ms Q pc ls (vJ a :: st) h nx cu su := by
  intro p e s m args below meth c H locs la hC hr hS hL
  refine lv_l2i hC.1 hC.2.1 dg ?_ (k p e s m args below meth c H locs la hC hr hS hL)
  exact Int64.toInt32_ofInt
theorem x_dup {v : rr_V} (dg : decode cc pc = .ok (.dup, 1)) (hn : rr_nj (some v) = true) (k : rr_R G y cc nL ret d mc ms Q (pc + 1) ls (v :: v :: st) h nx cu su) : rr_R G y cc nL ret d mc ms Q pc ls (v :: st) h nx cu su := fun p e s m args below meth c H locs la hC hr hS hL => lv_dup hC.1 hC.2.1 dg (rr_cat G v hn) (k p e s m args below meth c H locs la hC hr hS hL)
theorem x_pop {v : rr_V} (dg : decode cc pc = .ok (.pop, 1)) (hn : rr_nj (some v) = true) (k : rr_R G y cc nL ret d mc ms Q (pc + 1) ls st h nx cu su) : rr_R G y cc nL ret d mc ms Q pc ls (v :: st) h nx cu su := fun p e s m args below meth c H locs la hC hr hS hL => lv_pop hC.1 hC.2.1 dg (rr_cat G v hn) (k p e s m args below meth c H locs la hC hr hS hL)
theorem x_dup_x1 {v w : rr_V} (dg : decode cc pc = .ok (.dup_x1, 1)) (hn : rr_nj (some v) = true) (hw : rr_nj (some w) = true) (k : rr_R G y cc nL ret d mc ms Q (pc + 1) ls (v :: w :: v :: st) h nx cu su) : rr_R G y cc nL ret d mc ms Q pc ls (v :: w :: st) h nx cu su := fun p e s m args below meth c H locs la hC hr hS hL => lv_dup_x1 hC.1 hC.2.1 dg (rr_cat G v hn) (rr_cat G w hw) (k p e s m args below meth c H locs la hC hr hS hL)
theorem x_dup_x2 {v w u : rr_V} (dg : decode cc pc = .ok (.dup_x2, 1)) (hn : rr_nj (some v) = true) (hw : rr_nj (some w) = true) (hu : rr_nj (some u) = true) (k : rr_R G y cc nL ret d mc ms Q (pc + 1) ls (v :: w :: u :: v :: st) h nx cu su) : rr_R G y cc nL ret d mc ms Q pc ls (v :: w :: u :: st) h nx cu su := fun p e s m args below meth c H locs la hC hr hS hL => lv_dup_x2 hC.1 hC.2.1 dg (rr_cat G v hn) (rr_cat G w hw) (rr_cat G u hu) (k p e s m args below meth c H locs la hC hr hS hL)
theorem x_dup2 {v w : rr_V} (dg : decode cc pc = .ok (.dup2, 1)) (hn : rr_nj (some v) = true) (hw : rr_nj (some w) = true) (k : rr_R G y cc nL ret d mc ms Q (pc + 1) ls (v :: w :: v :: w :: st) h nx cu su) : rr_R G y cc nL ret d mc ms Q pc ls (v :: w :: st) h nx cu su := fun p e s m args below meth c H locs la hC hr hS hL => lv_dup2_11 hC.1 hC.2.1 dg (rr_cat G v hn) (rr_cat G w hw) (k p e s m args below meth c H locs la hC hr hS hL)
theorem x_goto {o : Int} {t : Nat} (dg : decode cc pc = .ok (.goto o, 3)) (ht : (pc : Int) + o = (t : Int)) (k : rr_R G y cc nL ret d mc ms Q t ls st h nx cu su) : rr_R G y cc nL ret d mc ms Q pc ls st h nx cu su := fun p e s m args below meth c H locs la hC hr hS hL => lv_goto hC.1 hC.2.1 dg ht (k p e s m args below meth c H locs la hC hr hS hL)
theorem x_icmp_eq {a b o : Int} {t : Nat} (dg : decode cc pc = .ok (.if_icmp .eq o, 3)) (ht : (pc : Int) + o = (t : Int)) (hab : (-2147483648 ≤ a ∧ a < 2147483648) ∧ -2147483648 ≤ b ∧ b < 2147483648) (kt : a = b → rr_R G y cc nL ret d mc ms Q t ls st h nx cu su) (kf : ¬ (a = b) → rr_R G y cc nL ret d mc ms Q (pc + 3) ls st h nx cu su) : rr_R G y cc nL ret d mc ms Q pc ls (vI b :: vI a :: st) h nx cu su := by
  intro p e s m args below meth c H locs la hC hr hS hL
  obtain ⟨ha, hb⟩ := hab
  exact lv_icmp_eq hC.1 hC.2.1 dg ht (fun w => (kt ((rr_eq_iff ha hb).mp w) p e s m args below meth c H locs la hC hr hS hL)) (fun w => (kf (fun q => w ((rr_eq_iff ha hb).mpr q)) p e s m args below meth c H locs la hC hr hS hL))
theorem x_if_eq {a o : Int} {t : Nat} (dg : decode cc pc = .ok (.ifCond .eq o, 3)) (ht : (pc : Int) + o = (t : Int)) (ha : -2147483648 ≤ a ∧ a < 2147483648) (kt : a = 0 → rr_R G y cc nL ret d mc ms Q t ls st h nx cu su) (kf : ¬ (a = 0) → rr_R G y cc nL ret d mc ms Q (pc + 3) ls st h nx cu su) : rr_R G y cc nL ret d mc ms Q pc ls (vI a :: st) h nx cu su := by
  intro p e s m args below meth c H locs la hC hr hS hL
  have hb : -2147483648 ≤ (0 : Int) ∧ (0 : Int) < 2147483648 := by omega
  exact lv_if_eq hC.1 hC.2.1 dg ht (fun w => (kt ((rr_eq_iff ha hb).mp w) p e s m args below meth c H locs la hC hr hS hL)) (fun w => (kf (fun q => w ((rr_eq_iff ha hb).mpr q)) p e s m args below meth c H locs la hC hr hS hL))
theorem x_icmp_ne {a b o : Int} {t : Nat} (dg : decode cc pc = .ok (.if_icmp .ne o, 3)) (ht : (pc : Int) + o = (t : Int)) (hab : (-2147483648 ≤ a ∧ a < 2147483648) ∧ -2147483648 ≤ b ∧ b < 2147483648) (kt : ¬ a = b → rr_R G y cc nL ret d mc ms Q t ls st h nx cu su) (kf : a = b → rr_R G y cc nL ret d mc ms Q (pc + 3) ls st h nx cu su) : rr_R G y cc nL ret d mc ms Q pc ls (vI b :: vI a :: st) h nx cu su := by
  intro p e s m args below meth c H locs la hC hr hS hL
  obtain ⟨ha, hb⟩ := hab
  exact lv_icmp_ne hC.1 hC.2.1 dg ht (fun w => (kt (fun q => w ((rr_eq_iff ha hb).mpr q)) p e s m args below meth c H locs la hC hr hS hL)) (fun w => (kf ((rr_eq_iff ha hb).mp w) p e s m args below meth c H locs la hC hr hS hL))
theorem x_if_ne {a o : Int} {t : Nat} (dg : decode cc pc = .ok (.ifCond .ne o, 3)) (ht : (pc : Int) + o = (t : Int)) (ha : -2147483648 ≤ a ∧ a < 2147483648) (kt : ¬ a = 0 → rr_R G y cc nL ret d mc ms Q t ls st h nx cu su) (kf : a = 0 → rr_R G y cc nL ret d mc ms Q (pc + 3) ls st h nx cu su) : rr_R G y cc nL ret d mc ms Q pc ls (vI a :: st) h nx cu su := by
  intro p e s m args below meth c H locs la hC hr hS hL
  have hb : -2147483648 ≤ (0 : Int) ∧ (0 : Int) < 2147483648 := by omega
  exact lv_if_ne hC.1 hC.2.1 dg ht (fun w => (kt (fun q => w ((rr_eq_iff ha hb).mpr q)) p e s m args below meth c H locs la hC hr hS hL)) (fun w => (kf ((rr_eq_iff ha hb).mp w) p e s m args below meth c H locs la hC hr hS hL))
theorem x_icmp_lt {a b o : Int} {t : Nat} (dg : decode cc pc = .ok (.if_icmp .lt o, 3)) (ht : (pc : Int) + o = (t : Int)) (hab : (-2147483648 ≤ a ∧ a < 2147483648) ∧ -2147483648 ≤ b ∧ b < 2147483648) (kt : a < b → rr_R G y cc nL ret d mc ms Q t ls st h nx cu su) (kf : ¬ (a < b) → rr_R G y cc nL ret d mc ms Q (pc + 3) ls st h nx cu su) : rr_R G y cc nL ret d mc ms Q pc ls (vI b :: vI a :: st) h nx cu su := by
  intro p e s m args below meth c H locs la hC hr hS hL
  obtain ⟨ha, hb⟩ := hab
  exact lv_icmp_lt hC.1 hC.2.1 dg ht (fun w => (kt ((rr_lt_iff ha hb).mp w) p e s m args below meth c H locs la hC hr hS hL)) (fun w => (kf (fun q => w ((rr_lt_iff ha hb).mpr q)) p e s m args below meth c H locs la hC hr hS hL))
theorem x_if_lt {a o : Int} {t : Nat} (dg : decode cc pc = .ok (.ifCond .lt o, 3)) (ht : (pc : Int) + o = (t : Int)) (ha : -2147483648 ≤ a ∧ a < 2147483648) (kt : a < 0 → rr_R G y cc nL ret d mc ms Q t ls st h nx cu su) (kf : ¬ (a < 0) → rr_R G y cc nL ret d mc ms Q (pc + 3) ls st h nx cu su) : rr_R G y cc nL ret d mc ms Q pc ls (vI a :: st) h nx cu su := by
  intro p e s m args below meth c H locs la hC hr hS hL
  have hb : -2147483648 ≤ (0 : Int) ∧ (0 : Int) < 2147483648 := by omega
  exact lv_if_lt hC.1 hC.2.1 dg ht (fun w => (kt ((rr_lt_iff ha hb).mp w) p e s m args below meth c H locs la hC hr hS hL)) (fun w => (kf (fun q => w ((rr_lt_iff ha hb).mpr q)) p e s m args below meth c H locs la hC hr hS hL))
theorem x_icmp_ge {a b o : Int} {t : Nat} (dg : decode cc pc = .ok (.if_icmp .ge o, 3)) (ht : (pc : Int) + o = (t : Int)) (hab : (-2147483648 ≤ a ∧ a < 2147483648) ∧ -2147483648 ≤ b ∧ b < 2147483648) (kt : b ≤ a → rr_R G y cc nL ret d mc ms Q t ls st h nx cu su) (kf : ¬ (b ≤ a) → rr_R G y cc nL ret d mc ms Q (pc + 3) ls st h nx cu su) : rr_R G y cc nL ret d mc ms Q pc ls (vI b :: vI a :: st) h nx cu su := by
  intro p e s m args below meth c H locs la hC hr hS hL
  obtain ⟨ha, hb⟩ := hab
  exact lv_icmp_ge hC.1 hC.2.1 dg ht (fun w => (kt ((rr_le_iff hb ha).mp w) p e s m args below meth c H locs la hC hr hS hL)) (fun w => (kf (fun q => w ((rr_le_iff hb ha).mpr q)) p e s m args below meth c H locs la hC hr hS hL))
theorem x_if_ge {a o : Int} {t : Nat} (dg : decode cc pc = .ok (.ifCond .ge o, 3)) (ht : (pc : Int) + o = (t : Int)) (ha : -2147483648 ≤ a ∧ a < 2147483648) (kt : 0 ≤ a → rr_R G y cc nL ret d mc ms Q t ls st h nx cu su) (kf : ¬ (0 ≤ a) → rr_R G y cc nL ret d mc ms Q (pc + 3) ls st h nx cu su) : rr_R G y cc nL ret d mc ms Q pc ls (vI a :: st) h nx cu su := by
  intro p e s m args below meth c H locs la hC hr hS hL
  have hb : -2147483648 ≤ (0 : Int) ∧ (0 : Int) < 2147483648 := by omega
  exact lv_if_ge hC.1 hC.2.1 dg ht (fun w => (kt ((rr_le_iff hb ha).mp w) p e s m args below meth c H locs la hC hr hS hL)) (fun w => (kf (fun q => w ((rr_le_iff hb ha).mpr q)) p e s m args below meth c H locs la hC hr hS hL))
theorem x_icmp_gt {a b o : Int} {t : Nat} (dg : decode cc pc = .ok (.if_icmp .gt o, 3)) (ht : (pc : Int) + o = (t : Int)) (hab : (-2147483648 ≤ a ∧ a < 2147483648) ∧ -2147483648 ≤ b ∧ b < 2147483648) (kt : b < a → rr_R G y cc nL ret d mc ms Q t ls st h nx cu su) (kf : ¬ (b < a) → rr_R G y cc nL ret d mc ms Q (pc + 3) ls st h nx cu su) : rr_R G y cc nL ret d mc ms Q pc ls (vI b :: vI a :: st) h nx cu su := by
  intro p e s m args below meth c H locs la hC hr hS hL
  obtain ⟨ha, hb⟩ := hab
  exact lv_icmp_gt hC.1 hC.2.1 dg ht (fun w => (kt ((rr_lt_iff hb ha).mp w) p e s m args below meth c H locs la hC hr hS hL)) (fun w => (kf (fun q => w ((rr_lt_iff hb ha).mpr q)) p e s m args below meth c H locs la hC hr hS hL))
theorem x_if_gt {a o : Int} {t : Nat} (dg : decode cc pc = .ok (.ifCond .gt o, 3)) (ht : (pc : Int) + o = (t : Int)) (ha : -2147483648 ≤ a ∧ a < 2147483648) (kt : 0 < a → rr_R G y cc nL ret d mc ms Q t ls st h nx cu su) (kf : ¬ (0 < a) → rr_R G y cc nL ret d mc ms Q (pc + 3) ls st h nx cu su) : rr_R G y cc nL ret d mc ms Q pc ls (vI a :: st) h nx cu su := by
  intro p e s m args below meth c H locs la hC hr hS hL
  have hb : -2147483648 ≤ (0 : Int) ∧ (0 : Int) < 2147483648 := by omega
  exact lv_if_gt hC.1 hC.2.1 dg ht (fun w => (kt ((rr_lt_iff hb ha).mp w) p e s m args below meth c H locs la hC hr hS hL)) (fun w => (kf (fun q => w ((rr_lt_iff hb ha).mpr q)) p e s m args below meth c H locs la hC hr hS hL))
theorem x_icmp_le {a b o : Int} {t : Nat} (dg : decode cc pc = .ok (.if_icmp .le o, 3)) (ht : (pc : Int) + o = (t : Int)) (hab : (-2147483648 ≤ a ∧ a < 2147483648) ∧ -2147483648 ≤ b ∧ b < 2147483648) (kt : a ≤ b → rr_R G y cc nL ret d mc ms Q t ls st h nx cu su) (kf : ¬ (a ≤ b) → rr_R G y cc nL ret d mc ms Q (pc + 3) ls st h nx cu su) : rr_R G y cc nL ret d mc ms Q pc ls (vI b :: vI a :: st) h nx cu su := by
  intro p e s m args below meth c H locs la hC hr hS hL
  obtain ⟨ha, hb⟩ := hab
  exact lv_icmp_le hC.1 hC.2.1 dg ht (fun w => (kt ((rr_le_iff ha hb).mp w) p e s m args below meth c H locs la hC hr hS hL)) (fun w => (kf (fun q => w ((rr_le_iff ha hb).mpr q)) p e s m args below meth c H locs la hC hr hS hL))
theorem x_if_le {a o : Int} {t : Nat} (dg : decode cc pc = .ok (.ifCond .le o, 3)) (ht : (pc : Int) + o = (t : Int)) (ha : -2147483648 ≤ a ∧ a < 2147483648) (kt : a ≤ 0 → rr_R G y cc nL ret d mc ms Q t ls st h nx cu su) (kf : ¬ (a ≤ 0) → rr_R G y cc nL ret d mc ms Q (pc + 3) ls st h nx cu su) : rr_R G y cc nL ret d mc ms Q pc ls (vI a :: st) h nx cu su := by
  intro p e s m args below meth c H locs la hC hr hS hL
  have hb : -2147483648 ≤ (0 : Int) ∧ (0 : Int) < 2147483648 := by omega
  exact lv_if_le hC.1 hC.2.1 dg ht (fun w => (kt ((rr_le_iff ha hb).mp w) p e s m args below meth c H locs la hC hr hS hL)) (fun w => (kf (fun q => w ((rr_le_iff ha hb).mpr q)) p e s m args below meth c H locs la hC hr hS hL))
theorem x_null (dg : decode cc pc = .ok (.aconst_null, 1)) (k : rr_R G y cc nL ret d mc ms Q (pc + 1) ls (vR none :: st) h nx cu su) : rr_R G y cc nL ret d mc ms Q pc ls st h nx cu su := fun p e s m args below meth c H locs la hC hr hS hL => lv_null hC.1 hC.2.1 dg (k p e s m args below meth c H locs la hC hr hS hL)
theorem x_ifnull_y {o : Int} {t : Nat} (dg : decode cc pc = .ok (.ifnull o, 3)) (ht : (pc : Int) + o = (t : Int)) (k : rr_R G y cc nL ret d mc ms Q t ls st h nx cu su) : rr_R G y cc nL ret d mc ms Q pc ls (vR none :: st) h nx cu su := fun p e s m args below meth c H locs la hC hr hS hL => lv_ifnullN hC.1 hC.2.1 dg ht (k p e s m args below meth c H locs la hC hr hS hL)
theorem x_ifnull_n {o : Int} {x : Nat} (dg : decode cc pc = .ok (.ifnull o, 3)) (k : rr_R G y cc nL ret d mc ms Q (pc + 3) ls st h nx cu su) : rr_R G y cc nL ret d mc ms Q pc ls (vR (some x) :: st) h nx cu su := fun p e s m args below meth c H locs la hC hr hS hL => lv_ifnull hC.1 hC.2.1 dg (k p e s m args below meth c H locs la hC hr hS hL)
theorem x_ifnonnull_n {o : Int} (dg : decode cc pc = .ok (.ifnonnull o, 3)) (k : rr_R G y cc nL ret d mc ms Q (pc + 3) ls st h nx cu su) : rr_R G y cc nL ret d mc ms Q pc ls (vR none :: st) h nx cu su := fun p e s m args below meth c H locs la hC hr hS hL => lv_ifnonnullN hC.1 hC.2.1 dg (k p e s m args below meth c H locs la hC hr hS hL)
theorem x_ifnonnull_y {o : Int} {t : Nat} {x : Nat} (dg : decode cc pc = .ok (.ifnonnull o, 3)) (ht : (pc : Int) + o = (t : Int)) (k : rr_R G y cc nL ret d mc ms Q t ls st h nx cu su) : rr_R G y cc nL ret d mc ms Q pc ls (vR (some x) :: st) h nx cu su := fun p e s m args below meth c H locs la hC hr hS hL => lv_ifnonnull hC.1 hC.2.1 dg ht (k p e s m args below meth c H locs la hC hr hS hL)
theorem x_iret {z : Int} (hret : ret = some .int) (dg : decode cc pc = .ok (.ireturn, 1)) (hc : cu ≤ mc) (hs : su ≤ ms) (k : Post (some (vI z)) h nx) : rr_R G y cc nL ret d mc ms (rr_N G mc ms Post) pc ls [vI z] h nx cu su := by
  intro p e s m args below meth c H locs la hC hr hS hL
  refine W.widen (k := mc) (n := ms) hc hs ?_
  exact W.iret hC.1 hC.2.1 (hC.2.2.1.trans hret) (fun t ht hW => ⟨⟨some (vI z), h, nx, rfl, k, by rw [ht]; exact hr⟩, hS.F ht⟩) hS.2.2 dg hC.2.2.2.2.2.2.1
theorem x_zret {z : Int} (hret : ret = some .boolean) (dg : decode cc pc = .ok (.ireturn, 1)) (hz : z = 0 ∨ z = 1) (hc : cu ≤ mc) (hs : su ≤ ms) (k : Post (some (vI z)) h nx) : rr_R G y cc nL ret d mc ms (rr_N G mc ms Post) pc ls [vI z] h nx cu su := by
  intro p e s m args below meth c H locs la hC hr hS hL
  refine W.widen (k := mc) (n := ms) hc hs ?_
  exact W.zret hC.1 hC.2.1 (hC.2.2.1.trans hret) (by rcases hz with rfl | rfl <;> decide) (fun t ht hW => ⟨⟨some (vI z), h, nx, rfl, k, by rw [ht]; exact hr⟩, hS.F ht⟩) hS.2.2 dg hC.2.2.2.2.2.2.1
theorem x_vret (hret : ret = none) (dg : decode cc pc = .ok (.return_, 1)) (hc : cu ≤ mc) (hs : su ≤ ms) (k : Post none h nx) : rr_R G y cc nL ret d mc ms (rr_N G mc ms Post) pc ls [] h nx cu su := by
  intro p e s m args below meth c H locs la hC hr hS hL
  refine W.widen (k := mc) (n := ms) hc hs ?_
  exact W.vret hC.1 hC.2.1 (hC.2.2.1.trans hret) (fun t ht hW => ⟨⟨none, h, nx, rfl, k, by rw [ht]; exact hr⟩, hS.F ht⟩) hS.2.2 dg hC.2.2.2.2.2.2.1
theorem x_aret {r : Option Nat} {rt : FieldType} (hret : ret = some rt) (hrt : (∃ n, rt = .object n) ∨ ∃ t, rt = .array t) (dg : decode cc pc = .ok (.areturn, 1)) (hc : cu ≤ mc) (hs : su ≤ ms) (k : Post (some (vR r)) h nx) : rr_R G y cc nL ret d mc ms (rr_N G mc ms Post) pc ls [vR r] h nx cu su := by
  intro p e s m args below meth c H locs la hC hr hS hL
  refine W.widen (k := mc) (n := ms) hc hs ?_
  exact W.aret hC.1 hC.2.1 (hC.2.2.1.trans hret) hrt (by cases r with
    | none => exact Or.inl rfl
    | some x => exact Or.inr ⟨_, rfl⟩) (fun t ht hW => ⟨⟨some (vR r), h, nx, rfl, k, by rw [ht]; exact hr⟩, hS.F ht⟩) hS.2.2 dg hC.2.2.2.2.2.2.1
/-- more counted than made -/
theorem x_wide {cu2 su2 : Nat} (h1 : cu ≤ cu2) (h2 : su ≤ su2) (k : rr_R G y cc nL ret d mc ms Q pc ls st h nx cu2 su2) : rr_R G y cc nL ret d mc ms Q pc ls st h nx cu su := fun p e s m args below meth c H locs la hC hr hS hL => W.widen h1 h2 (k p e s m args below meth c H locs la hC hr hS hL)
/-- fewer locals known -/
theorem x_loc {ls2 : List (Option rr_V)} (h1 : rr_le ls2 ls) (k : rr_R G y cc nL ret d mc ms Q pc ls2 st h nx cu su) : rr_R G y cc nL ret d mc ms Q pc ls st h nx cu su := fun p e s m args below meth c H locs la hC hr hS hL => k p e s m args below meth c H locs la hC hr hS (hL.sub h1)
theorem x_st {st2 : List rr_V} (h1 : st = st2) (k : rr_R G y cc nL ret d mc ms Q pc ls st2 h nx cu su) : rr_R G y cc nL ret d mc ms Q pc ls st h nx cu su := h1 ▸ k
theorem x_ls {ls2 : List (Option rr_V)} (h1 : ls = ls2) (k : rr_R G y cc nL ret d mc ms Q pc ls2 st h nx cu su) : rr_R G y cc nL ret d mc ms Q pc ls st h nx cu su := h1 ▸ k
theorem x_h {h2 : rr_H} (h1 : h = h2) (k : rr_R G y cc nL ret d mc ms Q pc ls st h2 nx cu su) : rr_R G y cc nL ret d mc ms Q pc ls st h nx cu su := h1 ▸ k
end RULES
