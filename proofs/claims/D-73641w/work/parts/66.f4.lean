/-! Integer.valueOf of small numbers; String.indexOf -/
set_option maxRecDepth 100000
section VO
variable {G : rr_G} {nx : Nat} {K N : Nat → Nat} {I : Nat → Int → Int} {R : Nat → Int → Option Nat} {s b : Nat} {l : List Int}
theorem x_icache {y : MethodName} {cc : ByteArray} {nL : Nat} {ret : Option FieldType} {d mc ms : Nat} {Q : List Frame → Array Value → State → State → Prop} {pc : Nat} {ls : List (Option rr_V)} {st : List rr_V} {h : rr_H} {cu su : Nat} {i : Int} (hi : 0 ≤ i ∧ i < 256) (dg : decode cc pc = .ok (.aaload, 1)) (hk : i.toNat < 128 + 20) (k : rr_R G y cc nL ret d mc ms Q (pc + 1) ls (vR (some (30 + i.toNat)) :: st) h nx cu su) : rr_R G y cc nL ret d mc ms Q pc ls (vI i :: vR (some 1) :: st) h nx cu su := by
  intro p e s m args below meth c H locs la hC hr hS hL
  obtain ⟨cell, g1, g2, g3, g4, g5, g6, g7⟩ := hC.2.2.2.2.2.2.2.2.2.1.2
  have hlt := (Array.getElem?_eq_some_iff.mp g1).1
  have hcell : H[G.2.2.1 1]? = some cell := by rw [hS.2.1 _ hlt g7]; exact g1
  obtain ⟨i1, i2, i3, i4⟩ := rr_idx (n := 256) (i := i) (by omega) (by omega)
  have kk := k p e s m args below meth c H locs la hC hr hS hL
  have e1 : ((vI i :: vR (some 1) :: st).map (rr_g G)) = .int (Int32.ofInt i) :: .ref (G.2.2.1 1) :: st.map (rr_g G) := by
    simp [rr_g, va_rf, rr_ad]
  have e2 : ((vR (some (30 + i.toNat)) :: st).map (rr_g G)) = .ref (G.2.2.1 (30 + i.toNat)) :: st.map (rr_g G) := by
    have : 30 + i.toNat < 300 := by omega
    simp [rr_g, va_rf, rr_ad, this]
  rw [e2] at kk
  rw [e1]
  refine W.aald (v := .ref (G.2.2.1 (30 + i.toNat))) (ty := .object "java/lang/Integer") hC.1 hC.2.1 hcell g2 rfl g3 (fun q => ?_) (by rw [i2]; exact g6 _ i3) rfl rfl dg kk
  rcases q with q | q
  · exact i1 (Or.inl q)
  · rw [i2] at q; omega
theorem jc_valueOf {i : Int} {h : rr_H} (hi : 0 ≤ i ∧ i < 20) : gP G yJ4_valueOf cJ4_valueOf 1 ((some (FieldType.object "java/lang/Integer"))) 0 0 0 [vI i] h nx (gEq (vR (some (158 + i.toNat))) h nx) := by
  refine gP.of (by decide) rfl (Nat.le_of_ble_eq_true rfl) ?_
  refine x_ls (ls2 := [some (vI i)]) rfl ?_
  refine x_iload_n dJ4_valueOf_0 rfl ?_
  refine x_bipush dJ4_valueOf_1 (by decide) ?_
  refine x_icmp_lt (t := 23) dJ4_valueOf_3 (by decide) (by omega) (fun c_3 => absurd c_3 (by omega)) (fun c_3 => ?_)
  refine x_iload_n dJ4_valueOf_6 rfl ?_
  refine x_gets 3 rfl q966 rfl dJ4_valueOf_7 ?_
  refine x_icmp_gt (t := 23) dJ4_valueOf_10 (by decide) (by omega) (fun c_10 => absurd c_10 (by omega)) (fun c_10 => ?_)
  refine x_gets 4 rfl q968 rfl dJ4_valueOf_13 ?_
  refine x_iload_n dJ4_valueOf_16 rfl ?_
  refine x_sipush dJ4_valueOf_17 (by decide) ?_
  refine x_iadd dJ4_valueOf_20 ?_
  refine x_icache (by omega) dJ4_valueOf_21 (by omega) ?_
  rw [show 30 + (i + 128).toNat = 158 + i.toNat by omega]
  refine gp_aret rfl (Or.inl ⟨_, rfl⟩) dJ4_valueOf_22 (by omega) (by omega) ?_
  exact ⟨rfl, rfl, rfl⟩
def IdxP (h : rr_H) (nx : Nat) (l : List Int) (ch : Int) : rr_V → rr_H → Nat → Prop := fun v h2 n2 => ∃ z, v = vI z ∧ h2 = h ∧ nx = n2 ∧ ((z = -1 ∧ ∀ i : Nat, i < l.length → l.getD i 0 ≠ ch) ∨ ∃ k : Nat, k < l.length ∧ z = k ∧ l.getD k 0 = ch ∧ ∀ i : Nat, i < k → l.getD i 0 ≠ ch)
theorem rr_i2b0 : ∀ z : Fin 256, rr_i2b (z.val : Int) = (if (z.val : Int) < 128 then (z.val : Int) else (z.val : Int) - 256) := by decide +kernel
theorem rr_i2b_c {z : Int} (h : 0 ≤ z ∧ z < 256) : rr_i2b z = if z < 128 then z else z - 256 := by
  have h1 := rr_i2b0 ⟨z.toNat, by omega⟩
  have : ((z.toNat : Nat) : Int) = z := by omega
  simp only [this] at h1
  exact h1
theorem jc_idxChar {ch : Int} (hS : Str K N I R s b l) (hch : 0 ≤ ch ∧ ch < 256) : gP G yJ11_indexOfChar cJ11_indexOfChar 6 ((some FieldType.int)) 0 0 0 [vR (some b), vI ch, vI 0, vI (l.length : Int)] (K, N, I, R) nx (IdxP (K, N, I, R) nx l ch) := by
  have hA : ∀ {j : Int}, 0 ≤ j → j < l.length → I b j = l.getD j.toNat 0 ∧ 0 ≤ I b j ∧ I b j < 128 := fun h0 h1 => hS.at h0 h1
  obtain ⟨-, ⟨hKb, hN⟩, -, -, hl⟩ := hS
  have hb := rr_i2b_c hch
  refine gP.of (by decide) rfl (Nat.le_of_ble_eq_true rfl) ?_
  refine x_ls (ls2 := [some (vR (some b)), some (vI ch), some (vI 0), some (vI (l.length : Int)), none, none]) rfl ?_
  refine x_iload_n dJ11_indexOfChar_0 rfl ?_
  refine x_i2b dJ11_indexOfChar_1 ?_
  refine x_istore dJ11_indexOfChar_2 (by decide) ?_
  refine x_iload_n dJ11_indexOfChar_4 rfl ?_
  refine x_istore dJ11_indexOfChar_5 (by decide) ?_
  refine x_ls (ls2 := [some (vR (some b)), some (vI ch), some (vI 0), some (vI (l.length : Int)), some (vI (rr_i2b ch)), some (vI ((0 : Nat) : Int))]) rfl ?_
  refine rr_ind (W := fun k : Nat => gp G yJ11_indexOfChar cJ11_indexOfChar 6 ((some FieldType.int)) 0 0 0 (IdxP (K, N, I, R) nx l ch) 7 [some (vR (some b)), some (vI ch), some (vI 0), some (vI (l.length : Int)), some (vI (rr_i2b ch)), some (vI (k : Int))] [] (K, N, I, R) nx 0 0) (fun k => l.length - k) (fun k => k ≤ l.length ∧ ∀ i : Nat, i < k → l.getD i 0 ≠ ch) ?_ 0 ⟨by omega, fun i hi => by omega⟩
  rintro k ⟨hk, heq⟩ ih
  refine x_iload dJ11_indexOfChar_7 rfl ?_
  refine x_iload_n dJ11_indexOfChar_9 rfl ?_
  refine x_icmp_ge (t := 31) dJ11_indexOfChar_10 (by decide) (by omega) (fun c_10 => ?_) (fun c_10 => ?_)
  · skip
    refine x_iconst dJ11_indexOfChar_31 ?_
    refine gp_iret rfl dJ11_indexOfChar_32 (by omega) (by omega) ?_
    exact ⟨_, rfl, rfl, rfl, Or.inl ⟨rfl, fun i hi => heq i (by omega)⟩⟩
  · skip
    have e1 := hA (j := (k : Int)) (by omega) (by omega)
    simp only [Int.toNat_natCast] at e1
    refine x_aload_n dJ11_indexOfChar_13 rfl ?_
    refine x_iload dJ11_indexOfChar_14 rfl ?_
    refine g_bald (by first | assumption | grind) rfl (by rw [hN]; omega) dJ11_indexOfChar_16 ?_
    refine x_iload dJ11_indexOfChar_17 rfl ?_
    refine x_icmp_ne (t := 25) dJ11_indexOfChar_19 (by decide) (by rw [hb]; split <;> omega) (fun c_19 => ?_) (fun c_19 => ?_)
    · skip
      refine x_iinc dJ11_indexOfChar_25 rfl (by decide) ?_
      refine x_goto (t := 7) dJ11_indexOfChar_28 (by decide) ?_
      refine x_ls (ls2 := [some (vR (some b)), some (vI ch), some (vI 0), some (vI (l.length : Int)), some (vI (rr_i2b ch)), some (vI ((k + 1 : Nat) : Int))]) (by simp) ?_
      refine ih (k + 1) ⟨by omega, fun i hi => ?_⟩ (by omega)
      by_cases hik : i = k
      · rw [hik]
        rw [hb] at c_19
        split at c_19 <;> omega
      · exact heq i (by omega)
    · skip
      refine x_iload dJ11_indexOfChar_22 rfl ?_
      refine gp_iret rfl dJ11_indexOfChar_24 (by omega) (by omega) ?_
      refine ⟨_, rfl, rfl, rfl, Or.inr ⟨k, by omega, rfl, ?_, heq⟩⟩
      rw [hb] at c_19
      split at c_19 <;> omega
theorem jc_canEncode2 {ch : Int} {h : rr_H} (hc : 0 ≤ ch ∧ ch < 256) : gP G yJ11_canEncode_2 cJ11_canEncode_2 1 ((some FieldType.boolean)) 0 0 0 [vI ch] h nx (gEq (vI 1) h nx) := by
  refine gP.of (by decide) rfl (Nat.le_of_ble_eq_true rfl) ?_
  refine x_ls (ls2 := [some (vI ch)]) rfl ?_
  refine x_iload_n dJ11_canEncode_2_0 rfl ?_
  refine x_if_lt (t := 15) dJ11_canEncode_2_1 (by decide) (by omega) (fun c_1 => absurd c_1 (by omega)) (fun c_1 => ?_)
  refine x_iload_n dJ11_canEncode_2_4 rfl ?_
  refine x_sipush dJ11_canEncode_2_5 (by decide) ?_
  refine x_icmp_gt (t := 15) dJ11_canEncode_2_8 (by decide) (by omega) (fun c_8 => absurd c_8 (by omega)) (fun c_8 => ?_)
  refine x_iconst dJ11_canEncode_2_11 ?_
  refine x_goto (t := 16) dJ11_canEncode_2_12 (by decide) ?_
  refine gp_zret rfl dJ11_canEncode_2_16 (by first | exact Or.inl rfl | exact Or.inr rfl | exact bi_01 _ | omega) (by omega) (by omega) ?_
  exact ⟨by first | rfl | exact rT2 (by omega) | exact rF2 (by omega), rfl, rfl⟩
theorem jc_idxL {ch : Int} (hS : Str K N I R s b l) (hch : 0 ≤ ch ∧ ch < 256) (h0 : 0 < l.length) : gP G yJ11_indexOf cJ11_indexOf 4 ((some FieldType.int)) 1 0 0 [vR (some b), vI ch, vI 0, vI (l.length : Int)] (K, N, I, R) nx (IdxP (K, N, I, R) nx l ch) := by
  have hl := hS.2.2.2.2
  have hKb := hS.2.1.1
  refine gP.of (by decide) rfl (Nat.le_of_ble_eq_true rfl) ?_
  refine x_ls (ls2 := [some (vR (some b)), some (vI ch), some (vI 0), some (vI (l.length : Int))]) rfl ?_
  refine x_iload_n dJ11_indexOf_0 rfl ?_
  refine g_cs1 (jc_canEncode2 hch) fJ11_canEncode_2 q1725 (by decide) (Nat.le_of_ble_eq_true rfl) (by omega) (by omega) dJ11_indexOf_1 (fun v h2 n2 hp => ?_)
  obtain ⟨rfl, rfl, rfl⟩ := hp
  refine x_if_ne (t := 9) dJ11_indexOf_4 (by decide) (by omega) (fun c_4 => ?_) (fun c_4 => absurd c_4 (by decide))
  refine x_iload_n dJ11_indexOf_9 rfl ?_
  refine x_iconst dJ11_indexOf_10 ?_
  refine x_mmax (by omega) q1728 (by decide) (Nat.le_of_ble_eq_true rfl) dJ11_indexOf_11 ?_ (by omega) (by omega)
  refine x_istore_n dJ11_indexOf_14 (by decide) ?_
  refine x_iload_n dJ11_indexOf_15 rfl ?_
  refine x_aload_n dJ11_indexOf_16 rfl ?_
  refine g_alen (t := 1) rfl (by first | assumption | grind) (hS.2.1.2) dJ11_indexOf_17 ?_
  refine x_mmin (by omega) q669 (by decide) (Nat.le_of_ble_eq_true rfl) dJ11_indexOf_18 ?_ (by omega) (by omega)
  refine x_istore_n dJ11_indexOf_21 (by decide) ?_
  refine x_ls (ls2 := [some (vR (some b)), some (vI ch), some (vI 0), some (vI (l.length : Int))]) (by simp; rfl) ?_
  refine x_iload_n dJ11_indexOf_22 rfl ?_
  refine x_iload_n dJ11_indexOf_23 rfl ?_
  refine x_icmp_lt (t := 29) dJ11_indexOf_24 (by decide) (by omega) (fun c_24 => ?_) (fun c_24 => absurd (by omega) c_24)
  refine x_aload_n dJ11_indexOf_29 rfl ?_
  refine x_iload_n dJ11_indexOf_30 rfl ?_
  refine x_iload_n dJ11_indexOf_31 rfl ?_
  refine x_iload_n dJ11_indexOf_32 rfl ?_
  refine g_cs4 (jc_idxChar hS hch) fJ11_indexOfChar q1729 (by decide) (Nat.le_of_ble_eq_true rfl) (by omega) (by omega) dJ11_indexOf_33 (fun v h2 n2 hp => ?_)
  obtain ⟨z, rfl, rfl, rfl, hz⟩ := hp
  refine gp_iret rfl dJ11_indexOf_36 (by omega) (by omega) ?_
  exact ⟨_, rfl, rfl, rfl, hz⟩
theorem jc_indexOf2 {ch : Int} (hS : Str K N I R s b l) (hch : 0 ≤ ch ∧ ch < 256) (h0 : 0 < l.length) : gP G yJ7_indexOf_2 cJ7_indexOf_2 3 ((some FieldType.int)) 2 0 0 [vR (some s), vI ch, vI 0] (K, N, I, R) nx (IdxP (K, N, I, R) nx l ch) := by
  have hK := hS.1.1
  refine gP.of (by decide) rfl (Nat.le_of_ble_eq_true rfl) ?_
  refine x_ls (ls2 := [some (vR (some s)), some (vI ch), some (vI 0)]) rfl ?_
  refine x_aload_n dJ7_indexOf_2_0 rfl ?_
  refine g_cv0 (ci := 14) (jc_isLatin1 hK hS.1.2.2) fJ7_isLatin1 q570 rfl (by decide) (by first | assumption | grind) (by decide) (Nat.le_of_ble_eq_true rfl) (by omega) (by omega) dJ7_indexOf_2_1 (fun v h2 n2 hp => ?_)
  obtain ⟨rfl, rfl, rfl⟩ := hp
  refine x_if_eq (t := 23) dJ7_indexOf_2_4 (by decide) (by omega) (fun c_4 => absurd c_4 (by decide)) (fun c_4 => ?_)
  refine x_aload_n dJ7_indexOf_2_7 rfl ?_
  refine g_getR 0 (r := some b) (ci := 14) (kf := 0) rfl (by decide) (by decide) rfl rfl q536 rfl (by first | assumption | grind) (hS.1.2.1) dJ7_indexOf_2_8 ?_
  refine x_iload_n dJ7_indexOf_2_11 rfl ?_
  refine x_iload_n dJ7_indexOf_2_12 rfl ?_
  refine x_aload_n dJ7_indexOf_2_13 rfl ?_
  refine g_cv0 (ci := 14) (jc_length hS) fJ7_length q563 rfl (by decide) (by first | assumption | grind) (by decide) (Nat.le_of_ble_eq_true rfl) (by omega) (by omega) dJ7_indexOf_2_14 (fun v h2 n2 hp => ?_)
  obtain ⟨rfl, rfl, rfl⟩ := hp
  refine g_cs4 (jc_idxL hS hch h0) fJ11_indexOf q1722 (by decide) (Nat.le_of_ble_eq_true rfl) (by omega) (by omega) dJ7_indexOf_2_17 (fun v h2 n2 hp => ?_)
  obtain ⟨z, rfl, rfl, rfl, hz⟩ := hp
  refine x_goto (t := 36) dJ7_indexOf_2_20 (by decide) ?_
  refine gp_iret rfl dJ7_indexOf_2_36 (by omega) (by omega) ?_
  exact ⟨_, rfl, rfl, rfl, hz⟩
theorem jc_indexOf {ch : Int} (hS : Str K N I R s b l) (hch : 0 ≤ ch ∧ ch < 256) (h0 : 0 < l.length) : gP G yJ7_indexOf cJ7_indexOf 2 ((some FieldType.int)) 3 0 0 [vR (some s), vI ch] (K, N, I, R) nx (IdxP (K, N, I, R) nx l ch) := by
  have hK := hS.1.1
  refine gP.of (by decide) rfl (Nat.le_of_ble_eq_true rfl) ?_
  refine x_ls (ls2 := [some (vR (some s)), some (vI ch)]) rfl ?_
  refine x_aload_n dJ7_indexOf_0 rfl ?_
  refine x_iload_n dJ7_indexOf_1 rfl ?_
  refine x_iconst dJ7_indexOf_2 ?_
  refine g_cv2 (ci := 14) (jc_indexOf2 hS hch h0) fJ7_indexOf_2 q1718 rfl (by decide) (by first | assumption | grind) (by decide) (Nat.le_of_ble_eq_true rfl) (by omega) (by omega) dJ7_indexOf_3 (fun v h2 n2 hp => ?_)
  obtain ⟨z, rfl, rfl, rfl, hz⟩ := hp
  refine gp_iret rfl dJ7_indexOf_6 (by omega) (by omega) ?_
  exact ⟨_, rfl, rfl, rfl, hz⟩
end VO
