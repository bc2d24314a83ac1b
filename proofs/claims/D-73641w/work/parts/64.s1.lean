/-! STRINGS of signs below 128 -/
set_option maxRecDepth 100000
def Str (K N : Nat → Nat) (I : Nat → Int → Int) (R : Nat → Int → Option Nat) (s b : Nat) (l : List Int) : Prop := (K s = 14 ∧ R s 0 = some b ∧ I s 1 = 0) ∧ (K b = 65 ∧ N b = l.length) ∧ (∀ i : Nat, i < l.length → I b i = l.getD i 0) ∧ (∀ c ∈ l, 0 ≤ c ∧ c < 128) ∧ l.length < 1000
section STR
variable {G : rr_G} {nx : Nat} {K N K2 N2 : Nat → Nat} {I I2 : Nat → Int → Int} {R R2 : Nat → Int → Option Nat} {s b : Nat} {l : List Int}
theorem Str.at (h : Str K N I R s b l) {j : Int} (h0 : 0 ≤ j) (h1 : j < l.length) : I b j = l.getD j.toNat 0 ∧ 0 ≤ I b j ∧ I b j < 128 := by
  obtain ⟨-, -, h3, h4, -⟩ := h
  have e := h3 j.toNat (by omega)
  rw [show ((j.toNat : Nat) : Int) = j by omega] at e
  have hm : l.getD j.toNat 0 ∈ l := by
    rw [List.getD_eq_getElem?_getD, List.getElem?_eq_getElem (by omega)]
    exact List.getElem_mem _
  rw [e]
  exact ⟨rfl, h4 _ hm⟩
theorem Str.keep (h : Str K N I R s b l) (e1 : K2 s = K s) (e2 : R2 s = R s) (e3 : I2 s = I s) (e4 : K2 b = K b) (e5 : N2 b = N b) (e6 : I2 b = I b) : Str K2 N2 I2 R2 s b l := by
  obtain ⟨⟨a1, a2, a3⟩, ⟨b1, b2⟩, h3, h4, h5⟩ := h
  exact ⟨⟨by rw [e1]; exact a1, by rw [e2]; exact a2, by rw [e3]; exact a3⟩, ⟨by rw [e4]; exact b1, by rw [e5]; exact b2⟩, fun i hi => by rw [e6]; exact h3 i hi, h4, h5⟩
theorem rr_shr_0 {z : Int} (h : -2147483648 ≤ z ∧ z < 2147483648) : rr_shr z 0 = z := by
  unfold rr_shr
  have e : (Int32.ofInt 0 &&& 31) = 0 := by decide
  rw [e]
  have : Int32.ofInt z >>> (0 : Int32) = Int32.ofInt z := by
    apply Int32.toBitVec_inj.mp
    simp
  rw [this, Int32.toInt_ofInt_of_le (by omega) (by omega)]
theorem rr_shl_0 {z : Int} (h : -2147483648 ≤ z ∧ z < 2147483648) : rr_shl z 0 = z := by
  unfold rr_shl
  have e : (Int32.ofInt 0 &&& 31) = 0 := by decide
  rw [e]
  have : Int32.ofInt z <<< (0 : Int32) = Int32.ofInt z := by
    apply Int32.toBitVec_inj.mp
    simp
  rw [this, Int32.toInt_ofInt_of_le (by omega) (by omega)]
theorem rr_ch0 : ∀ z : Fin 128, rr_i2c (rr_and (z.val : Int) 255) = (z.val : Int) ∧ rr_i2b (z.val : Int) = (z.val : Int) ∧ rr_i2c (z.val : Int) = (z.val : Int) := by decide +kernel
theorem rr_ch {z : Int} (h : 0 ≤ z ∧ z < 128) : rr_i2c (rr_and z 255) = z ∧ rr_i2b z = z ∧ rr_i2c z = z := by
  have h1 := rr_ch0 ⟨z.toNat, by omega⟩
  have : ((z.toNat : Nat) : Int) = z := by omega
  simp only [this] at h1
  exact h1
theorem jc_coder (hK : K s = 14) (h1 : I s 1 = 0) : gP G yJ7_coder cJ7_coder 1 ((some FieldType.byte)) 0 0 0 [vR (some s)] (K, N, I, R) nx (gEq (vI 0) (K, N, I, R) nx) := by
  refine gP.of (by decide) rfl (Nat.le_of_ble_eq_true rfl) ?_
  refine x_ls (ls2 := [some (vR (some s))]) rfl ?_
  refine x_gets 0 rfl q522 rfl dJ7_coder_0 ?_
  refine x_if_eq (t := 13) dJ7_coder_3 (by decide) (by omega) (fun c_3 => absurd c_3 (by decide)) (fun c_3 => ?_)
  refine x_aload_n dJ7_coder_6 rfl ?_
  refine g_getI 1 (ci := 14) (kf := 1) rfl (by decide) (by decide) rfl rfl q537 rfl (by first | assumption | grind) dJ7_coder_7 ?_
  rw [h1]
  refine x_goto (t := 14) dJ7_coder_10 (by decide) ?_
  refine gp_nret (ty := .byte) rfl dJ7_coder_14 (by decide) (by omega) (by omega) ?_
  exact ⟨rfl, rfl, rfl⟩
theorem jc_isLatin1 (hK : K s = 14) (h1 : I s 1 = 0) : gP G yJ7_isLatin1 cJ7_isLatin1 1 ((some FieldType.boolean)) 0 0 0 [vR (some s)] (K, N, I, R) nx (gEq (vI 1) (K, N, I, R) nx) := by
  refine gP.of (by decide) rfl (Nat.le_of_ble_eq_true rfl) ?_
  refine x_ls (ls2 := [some (vR (some s))]) rfl ?_
  refine x_gets 0 rfl q522 rfl dJ7_isLatin1_0 ?_
  refine x_if_eq (t := 17) dJ7_isLatin1_3 (by decide) (by omega) (fun c_3 => absurd c_3 (by decide)) (fun c_3 => ?_)
  refine x_aload_n dJ7_isLatin1_6 rfl ?_
  refine g_getI 1 (ci := 14) (kf := 1) rfl (by decide) (by decide) rfl rfl q537 rfl (by first | assumption | grind) dJ7_isLatin1_7 ?_
  rw [h1]
  refine x_if_ne (t := 17) dJ7_isLatin1_10 (by decide) (by omega) (fun c_10 => absurd (rfl) c_10) (fun c_10 => ?_)
  refine x_iconst dJ7_isLatin1_13 ?_
  refine x_goto (t := 18) dJ7_isLatin1_14 (by decide) ?_
  refine gp_zret rfl dJ7_isLatin1_18 (by first | exact Or.inl rfl | exact Or.inr rfl | exact bi_01 _ | omega) (by omega) (by omega) ?_
  exact ⟨by first | rfl | exact rT2 (by omega) | exact rF2 (by omega), rfl, rfl⟩
theorem jc_length (hS : Str K N I R s b l) : gP G yJ7_length cJ7_length 1 ((some FieldType.int)) 1 0 0 [vR (some s)] (K, N, I, R) nx (gEq (vI (l.length : Int)) (K, N, I, R) nx) := by
  obtain ⟨⟨hK, hR, h1⟩, ⟨hKb, hN⟩, hb, hc, hl⟩ := hS
  refine gP.of (by decide) rfl (Nat.le_of_ble_eq_true rfl) ?_
  refine x_ls (ls2 := [some (vR (some s))]) rfl ?_
  refine x_aload_n dJ7_length_0 rfl ?_
  refine g_getR 0 (r := some b) (ci := 14) (kf := 0) rfl (by decide) (by decide) rfl rfl q536 rfl (by first | assumption | grind) (hR) dJ7_length_1 ?_
  refine g_alen (t := 1) rfl (by first | assumption | grind) (hN) dJ7_length_4 ?_
  refine x_aload_n dJ7_length_5 rfl ?_
  refine g_cv0 (ci := 14) (jc_coder hK h1) fJ7_coder q555 rfl (by decide) (by first | assumption | grind) (by decide) (Nat.le_of_ble_eq_true rfl) (by omega) (by omega) dJ7_length_6 (fun v h2 n2 hp => ?_)
  obtain ⟨rfl, rfl, rfl⟩ := hp
  refine x_ishr dJ7_length_9 ?_
  rw [rr_shr_0 (by omega)]
  refine gp_iret rfl dJ7_length_10 (by omega) (by omega) ?_
  exact ⟨rfl, rfl, rfl⟩
theorem jc_pcheck {i n : Int} {f : Option Nat} {h : rr_H} (hi : 0 ≤ i ∧ i < n) (hn : n < 2147483648) : gP G yJ12_checkIndex cJ12_checkIndex 3 ((some FieldType.int)) 0 0 0 [vI i, vI n, vR f] h nx (gEq (vI i) h nx) := by
  refine gP.of (by decide) rfl (Nat.le_of_ble_eq_true rfl) ?_
  refine x_ls (ls2 := [some (vI i), some (vI n), some (vR f)]) rfl ?_
  refine x_iload_n dJ12_checkIndex_0 rfl ?_
  refine x_if_lt (t := 9) dJ12_checkIndex_1 (by decide) (by omega) (fun c_1 => absurd c_1 (by omega)) (fun c_1 => ?_)
  refine x_iload_n dJ12_checkIndex_4 rfl ?_
  refine x_iload_n dJ12_checkIndex_5 rfl ?_
  refine x_icmp_lt (t := 16) dJ12_checkIndex_6 (by decide) (by omega) (fun c_6 => ?_) (fun c_6 => absurd (by omega) c_6)
  refine x_iload_n dJ12_checkIndex_16 rfl ?_
  refine gp_iret rfl dJ12_checkIndex_17 (by omega) (by omega) ?_
  exact ⟨rfl, rfl, rfl⟩
theorem jc_checkIndex {i n : Int} {h : rr_H} (hi : 0 ≤ i ∧ i < n) (hn : n < 2147483648) : gW G yJ7_checkIndex cJ7_checkIndex 2 (none) 1 0 0 [vI i, vI n] h nx (gEw h nx) := by
  refine gW.of (by decide) rfl (Nat.le_of_ble_eq_true rfl) ?_
  refine x_ls (ls2 := [some (vI i), some (vI n)]) rfl ?_
  refine x_iload_n dJ7_checkIndex_0 rfl ?_
  refine x_iload_n dJ7_checkIndex_1 rfl ?_
  refine x_gets 1 rfl q460 rfl dJ7_checkIndex_2 ?_
  refine g_cs3 (jc_pcheck hi hn) fJ12_checkIndex q483 (by decide) (Nat.le_of_ble_eq_true rfl) (by omega) (by omega) dJ7_checkIndex_5 (fun v h2 n2 hp => ?_)
  obtain ⟨rfl, rfl, rfl⟩ := hp
  refine x_pop dJ7_checkIndex_8 rfl ?_
  refine gw_vret rfl dJ7_checkIndex_9 (by omega) (by omega) ?_
  exact ⟨rfl, rfl⟩
theorem jc_charL {i : Int} (hKb : K b = 65) (hi : 0 ≤ i ∧ i < (N b : Int)) (hn : (N b : Int) < 2147483648) (hc : 0 ≤ I b i ∧ I b i < 128) : gP G yJ11_charAt cJ11_charAt 2 ((some FieldType.char)) 2 0 0 [vR (some b), vI i] (K, N, I, R) nx (gEq (vI (I b i)) (K, N, I, R) nx) := by
  refine gP.of (by decide) rfl (Nat.le_of_ble_eq_true rfl) ?_
  refine x_ls (ls2 := [some (vR (some b)), some (vI i)]) rfl ?_
  refine x_iload_n dJ11_charAt_0 rfl ?_
  refine x_aload_n dJ11_charAt_1 rfl ?_
  refine g_alen (t := 1) rfl (by first | assumption | grind) (rfl) dJ11_charAt_2 ?_
  refine g_ct2 (jc_checkIndex hi hn) fJ7_checkIndex q959 (by decide) (Nat.le_of_ble_eq_true rfl) (by omega) (by omega) dJ11_charAt_3 (fun h2 n2 hp => ?_)
  obtain ⟨rfl, rfl⟩ := hp
  refine x_aload_n dJ11_charAt_6 rfl ?_
  refine x_iload_n dJ11_charAt_7 rfl ?_
  refine g_bald (by first | assumption | grind) rfl (by omega) dJ11_charAt_8 ?_
  refine x_sipush dJ11_charAt_9 (by decide) ?_
  refine x_iand dJ11_charAt_12 ?_
  refine x_i2c dJ11_charAt_13 ?_
  rw [(rr_ch hc).1]
  refine gp_nret (ty := .char) rfl dJ11_charAt_14 (rr_nar_c (by omega)) (by omega) (by omega) ?_
  exact ⟨rfl, rfl, rfl⟩
theorem jc_charAt {i : Int} (hS : Str K N I R s b l) (hi : 0 ≤ i ∧ i < (l.length : Int)) : gP G yJ7_charAt cJ7_charAt 2 ((some FieldType.char)) 3 0 0 [vR (some s), vI i] (K, N, I, R) nx (gEq (vI (l.getD i.toNat 0)) (K, N, I, R) nx) := by
  have ha := hS.at hi.1 hi.2
  obtain ⟨⟨hK, hR, h1⟩, ⟨hKb, hN⟩, hb, hc, hl⟩ := hS
  refine gP.of (by decide) rfl (Nat.le_of_ble_eq_true rfl) ?_
  refine x_ls (ls2 := [some (vR (some s)), some (vI i)]) rfl ?_
  refine x_aload_n dJ7_charAt_0 rfl ?_
  refine g_cv0 (ci := 14) (jc_isLatin1 hK h1) fJ7_isLatin1 q570 rfl (by decide) (by first | assumption | grind) (by decide) (Nat.le_of_ble_eq_true rfl) (by omega) (by omega) dJ7_charAt_1 (fun v h2 n2 hp => ?_)
  obtain ⟨rfl, rfl, rfl⟩ := hp
  refine x_if_eq (t := 16) dJ7_charAt_4 (by decide) (by omega) (fun c_4 => absurd c_4 (by decide)) (fun c_4 => ?_)
  refine x_aload_n dJ7_charAt_7 rfl ?_
  refine g_getR 0 (r := some b) (ci := 14) (kf := 0) rfl (by decide) (by decide) rfl rfl q536 rfl (by first | assumption | grind) (hR) dJ7_charAt_8 ?_
  refine x_iload_n dJ7_charAt_11 rfl ?_
  refine g_cs2 (jc_charL hKb (by rw [hN]; exact hi) (by rw [hN]; omega) ha.2) fJ11_charAt q956 (by decide) (Nat.le_of_ble_eq_true rfl) (by omega) (by omega) dJ7_charAt_12 (fun v h2 n2 hp => ?_)
  obtain ⟨rfl, rfl, rfl⟩ := hp
  rw [ha.1]
  refine gp_nret (ty := .char) rfl dJ7_charAt_15 (rr_nar_c (by omega)) (by omega) (by omega) ?_
  exact ⟨rfl, rfl, rfl⟩
theorem jc_getChar {i : Int} (hKb : K b = 65) (hi : 0 ≤ i ∧ i < (N b : Int)) (hn : (N b : Int) < 2147483648) (hc : 0 ≤ I b i ∧ I b i < 128) : gP G yJ11_getChar cJ11_getChar 2 ((some FieldType.char)) 0 0 0 [vR (some b), vI i] (K, N, I, R) nx (gEq (vI (I b i)) (K, N, I, R) nx) := by
  refine gP.of (by decide) rfl (Nat.le_of_ble_eq_true rfl) ?_
  refine x_ls (ls2 := [some (vR (some b)), some (vI i)]) rfl ?_
  refine x_aload_n dJ11_getChar_0 rfl ?_
  refine x_iload_n dJ11_getChar_1 rfl ?_
  refine g_bald (by first | assumption | grind) rfl (by omega) dJ11_getChar_2 ?_
  refine x_sipush dJ11_getChar_3 (by decide) ?_
  refine x_iand dJ11_getChar_6 ?_
  refine x_i2c dJ11_getChar_7 ?_
  rw [(rr_ch hc).1]
  refine gp_nret (ty := .char) rfl dJ11_getChar_8 (rr_nar_c (by omega)) (by omega) (by omega) ?_
  exact ⟨rfl, rfl, rfl⟩
end STR
