set_option maxRecDepth 100000
/-! Integer.bitCount, as it is written -/
def bc1 (z : Int) : Int := z - rr_and (rr_ushr z 1) 1431655765
def bc2 (z : Int) : Int := rr_and (bc1 z) 858993459 + rr_and (rr_ushr (bc1 z) 2) 858993459
def bc3 (z : Int) : Int := rr_and (bc2 z + rr_ushr (bc2 z) 4) 252645135
def bc4 (z : Int) : Int := bc3 z + rr_ushr (bc3 z) 8
def bc5 (z : Int) : Int := bc4 z + rr_ushr (bc4 z) 16
def bcx (z : Int) : Int := rr_and (bc5 z) 63
theorem xc_bitCount {z : Int} : xC yJ4_bitCount cJ4_bitCount 1 (some FieldType.int) 0 [vI z] (some (vI (bcx z))) := by
  refine xC.of (by decide) rfl (Nat.le_of_ble_eq_true rfl) (fun G h nx => ?_)
  refine x_ls (ls2 := [some (vI z)]) rfl ?_
  refine x_iload_n dJ4_bitCount_0 rfl ?_
  refine x_iload_n dJ4_bitCount_1 rfl ?_
  refine x_iconst dJ4_bitCount_2 ?_
  refine x_iushr dJ4_bitCount_3 ?_
  refine x_ldcw (z := 1431655765) q349 dJ4_bitCount_4 (by decide) ?_
  refine x_iand dJ4_bitCount_7 ?_
  refine x_isub dJ4_bitCount_8 ?_
  refine x_istore_n dJ4_bitCount_9 (by decide) ?_
  refine x_iload_n dJ4_bitCount_10 rfl ?_
  refine x_ldcw (z := 858993459) q350 dJ4_bitCount_11 (by decide) ?_
  refine x_iand dJ4_bitCount_14 ?_
  refine x_iload_n dJ4_bitCount_15 rfl ?_
  refine x_iconst dJ4_bitCount_16 ?_
  refine x_iushr dJ4_bitCount_17 ?_
  refine x_ldcw (z := 858993459) q350 dJ4_bitCount_18 (by decide) ?_
  refine x_iand dJ4_bitCount_21 ?_
  refine x_iadd dJ4_bitCount_22 ?_
  refine x_istore_n dJ4_bitCount_23 (by decide) ?_
  refine x_iload_n dJ4_bitCount_24 rfl ?_
  refine x_iload_n dJ4_bitCount_25 rfl ?_
  refine x_iconst dJ4_bitCount_26 ?_
  refine x_iushr dJ4_bitCount_27 ?_
  refine x_iadd dJ4_bitCount_28 ?_
  refine x_ldcw (z := 252645135) q351 dJ4_bitCount_29 (by decide) ?_
  refine x_iand dJ4_bitCount_32 ?_
  refine x_istore_n dJ4_bitCount_33 (by decide) ?_
  refine x_iload_n dJ4_bitCount_34 rfl ?_
  refine x_iload_n dJ4_bitCount_35 rfl ?_
  refine x_bipush dJ4_bitCount_36 (by decide) ?_
  refine x_iushr dJ4_bitCount_38 ?_
  refine x_iadd dJ4_bitCount_39 ?_
  refine x_istore_n dJ4_bitCount_40 (by decide) ?_
  refine x_iload_n dJ4_bitCount_41 rfl ?_
  refine x_iload_n dJ4_bitCount_42 rfl ?_
  refine x_bipush dJ4_bitCount_43 (by decide) ?_
  refine x_iushr dJ4_bitCount_45 ?_
  refine x_iadd dJ4_bitCount_46 ?_
  refine x_istore_n dJ4_bitCount_47 (by decide) ?_
  refine x_iload_n dJ4_bitCount_48 rfl ?_
  refine x_bipush dJ4_bitCount_49 (by decide) ?_
  refine x_iand dJ4_bitCount_51 ?_
  refine x_iret rfl dJ4_bitCount_52 (Nat.le_refl _) (Nat.le_refl _) ?_
  exact ⟨rfl, rfl, rfl⟩
