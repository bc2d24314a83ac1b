/-! STRINGS 4: StringBuilder -/
set_option maxRecDepth 100000
def Sb (K N : Nat → Nat) (I : Nat → Int → Int) (R : Nat → Int → Option Nat) (s b : Nat) (l : List Int) : Prop := (K s = 15 ∧ R s 0 = some b ∧ I s 1 = 0 ∧ I s 3 = l.length) ∧ (K b = 65 ∧ N b = 16) ∧ (∀ i : Nat, i < l.length → I b i = l.getD i 0) ∧ (∀ c ∈ l, 0 ≤ c ∧ c < 128) ∧ l.length ≤ 15 ∧ 300 ≤ s ∧ 300 ≤ b
section STR
variable {G : rr_G} {nx : Nat} {K N : Nat → Nat} {I : Nat → Int → Int} {R : Nat → Int → Option Nat} {s b : Nat} {l : List Int}
theorem jc_asbinit {z : Nat} (hK : K z = 15) (hz : 300 ≤ z) : gW G yJ5_init cJ5_init 2 (none) 1 1 16 [vR (some z), vI 16] (K, N, I, R) nx (gEw (rr_u1 K nx 65, rr_u1 N nx 16, rr_u2 (rr_u1 I nx (fun _ => 0)) z 1 0, rr_u2 (rr_u1 R nx (fun _ => none)) z 0 (some nx)) (nx + 1)) := by
  refine gW.of (by decide) rfl (Nat.le_of_ble_eq_true rfl) ?_
  refine x_ls (ls2 := [some (vR (some z)), some (vI 16)]) rfl ?_
  refine x_live (fun hlv h3 => ?_)
  have hzx : z ≠ nx := by
    have := hlv z (by show K z ≠ 0; omega)
    omega
  have eK : rr_u1 K nx (64 + 1) z = 15 := by simp [rr_u1, hzx, hK]
  refine x_aload_n dJ5_init_0 rfl ?_
  refine x_oinit q372 q197 q198 (by decide) (Nat.le_of_ble_eq_true rfl) dJ5_init_1 ?_
  refine x_gets 0 rfl q373 rfl dJ5_init_4 ?_
  refine x_if_eq (t := 25) dJ5_init_7 (by decide) (by omega) (fun c_7 => absurd c_7 (by decide)) (fun c_7 => ?_)
  refine x_aload_n dJ5_init_10 rfl ?_
  refine x_iload_n dJ5_init_11 rfl ?_
  refine g_newa 1 (16) (aty := .byte) rfl rfl rfl q257 (rfl) (by omega) (by omega) (by omega) dJ5_init_12 ?_
  refine g_putR 0 (ci := 15) (kf := 0) rfl (by decide) (by decide) rfl rfl q382 rfl (eK) (by first | assumption | omega) (Or.inl rfl) dJ5_init_14 ?_
  refine x_aload_n dJ5_init_17 rfl ?_
  refine x_iconst dJ5_init_18 ?_
  refine g_putI 1 (ci := 15) (kf := 1) rfl (by decide) (by decide) rfl rfl q383 rfl (eK) (by first | assumption | omega) (Or.inl rfl) (rr_nar_b (by decide)) dJ5_init_19 ?_
  refine x_goto (t := 38) dJ5_init_22 (by decide) ?_
  refine gw_vret rfl dJ5_init_38 (by omega) (by omega) ?_
  exact ⟨rfl, rfl⟩
theorem jc_sbinit {z : Nat} (hK : K z = 15) (hz : 300 ≤ z) : gW G yJ6_init cJ6_init 1 (none) 2 1 16 [vR (some z)] (K, N, I, R) nx (gEw (rr_u1 K nx 65, rr_u1 N nx 16, rr_u2 (rr_u1 I nx (fun _ => 0)) z 1 0, rr_u2 (rr_u1 R nx (fun _ => none)) z 0 (some nx)) (nx + 1)) := by
  refine gW.of (by decide) rfl (Nat.le_of_ble_eq_true rfl) ?_
  refine x_ls (ls2 := [some (vR (some z))]) rfl ?_
  refine x_aload_n dJ6_init_0 rfl ?_
  refine x_bipush dJ6_init_1 (by decide) ?_
  refine g_ci1 (jc_asbinit hK hz) fJ5_init q369 (by decide) (Nat.le_of_ble_eq_true rfl) (by omega) (by omega) dJ6_init_3 (fun h2 n2 hp => ?_)
  obtain ⟨rfl, rfl⟩ := hp
  refine gw_vret rfl dJ6_init_6 (by omega) (by omega) ?_
  exact ⟨rfl, rfl⟩
theorem jc_ensure {m : Int} (hS : Sb K N I R s b l) (hm : 0 ≤ m ∧ m ≤ 16) : gW G yJ5_ensureCapacityInternal cJ5_ensureCapacityInternal 3 (none) 0 0 0 [vR (some s), vI m] (K, N, I, R) nx (gEw (K, N, I, R) nx) := by
  obtain ⟨⟨hK, hR, h1, h3⟩, ⟨hKb, hN⟩, hb, hc, hl⟩ := hS
  refine gW.of (by decide) rfl (Nat.le_of_ble_eq_true rfl) ?_
  refine x_ls (ls2 := [some (vR (some s)), some (vI m), none]) rfl ?_
  refine x_aload_n dJ5_ensureCapacityInternal_0 rfl ?_
  refine g_getR 0 (r := some b) (ci := 15) (kf := 0) rfl (by decide) (by decide) rfl rfl q382 rfl (by first | assumption | grind) (hR) dJ5_ensureCapacityInternal_1 ?_
  refine g_alen (t := 1) rfl (by first | assumption | grind) (hN) dJ5_ensureCapacityInternal_4 ?_
  refine x_aload_n dJ5_ensureCapacityInternal_5 rfl ?_
  refine g_getI 1 (ci := 15) (kf := 1) rfl (by decide) (by decide) rfl rfl q383 rfl (by first | assumption | grind) dJ5_ensureCapacityInternal_6 ?_
  rw [h1]
  refine x_ishr dJ5_ensureCapacityInternal_9 ?_
  rw [rr_shr_0 (by omega)]
  refine x_istore_n dJ5_ensureCapacityInternal_10 (by decide) ?_
  refine x_iload_n dJ5_ensureCapacityInternal_11 rfl ?_
  refine x_iload_n dJ5_ensureCapacityInternal_12 rfl ?_
  refine x_isub dJ5_ensureCapacityInternal_13 ?_
  refine x_if_le (t := 38) dJ5_ensureCapacityInternal_14 (by decide) (by omega) (fun c_14 => ?_) (fun c_14 => absurd (by omega) c_14)
  refine gw_vret rfl dJ5_ensureCapacityInternal_38 (by omega) (by omega) ?_
  exact ⟨rfl, rfl⟩
theorem jc_sblatin (hK : K s = 15) (h1 : I s 1 = 0) : gP G yJ5_isLatin1 cJ5_isLatin1 1 ((some FieldType.boolean)) 0 0 0 [vR (some s)] (K, N, I, R) nx (gEq (vI 1) (K, N, I, R) nx) := by
  refine gP.of (by decide) rfl (Nat.le_of_ble_eq_true rfl) ?_
  refine x_ls (ls2 := [some (vR (some s))]) rfl ?_
  refine x_gets 0 rfl q373 rfl dJ5_isLatin1_0 ?_
  refine x_if_eq (t := 17) dJ5_isLatin1_3 (by decide) (by omega) (fun c_3 => absurd c_3 (by decide)) (fun c_3 => ?_)
  refine x_aload_n dJ5_isLatin1_6 rfl ?_
  refine g_getI 1 (ci := 15) (kf := 1) rfl (by decide) (by decide) rfl rfl q383 rfl (by first | assumption | grind) dJ5_isLatin1_7 ?_
  rw [h1]
  refine x_if_ne (t := 17) dJ5_isLatin1_10 (by decide) (by omega) (fun c_10 => absurd (rfl) c_10) (fun c_10 => ?_)
  refine x_iconst dJ5_isLatin1_13 ?_
  refine x_goto (t := 18) dJ5_isLatin1_14 (by decide) ?_
  refine gp_zret rfl dJ5_isLatin1_18 (by first | exact Or.inl rfl | exact Or.inr rfl | exact bi_01 _ | omega) (by omega) (by omega) ?_
  exact ⟨by first | rfl | exact rT2 (by omega) | exact rF2 (by omega), rfl, rfl⟩
theorem jc_canEncode {c : Int} {h : rr_H} (hc : 0 ≤ c ∧ c < 128) : gP G yJ11_canEncode cJ11_canEncode 1 ((some FieldType.boolean)) 0 0 0 [vI c] h nx (gEq (vI 1) h nx) := by
  refine gP.of (by decide) rfl (Nat.le_of_ble_eq_true rfl) ?_
  refine x_ls (ls2 := [some (vI c)]) rfl ?_
  refine x_iload_n dJ11_canEncode_0 rfl ?_
  refine x_sipush dJ11_canEncode_1 (by decide) ?_
  refine x_icmp_gt (t := 11) dJ11_canEncode_4 (by decide) (by omega) (fun c_4 => absurd c_4 (by omega)) (fun c_4 => ?_)
  refine x_iconst dJ11_canEncode_7 ?_
  refine x_goto (t := 12) dJ11_canEncode_8 (by decide) ?_
  refine gp_zret rfl dJ11_canEncode_12 (by first | exact Or.inl rfl | exact Or.inr rfl | exact bi_01 _ | omega) (by omega) (by omega) ?_
  exact ⟨by first | rfl | exact rT2 (by omega) | exact rF2 (by omega), rfl, rfl⟩
def SbP (K N : Nat → Nat) (I : Nat → Int → Int) (R : Nat → Int → Option Nat) (nx s b : Nat) (l : List Int) : rr_V → rr_H → Nat → Prop := fun v h2 n2 => v = vR (some s) ∧ nx = n2 ∧ ∃ I2, h2 = (K, N, I2, R) ∧ Sb K N I2 R s b l ∧ ∀ x, x ≠ s → x ≠ b → I2 x = I x
theorem jc_asbappend {c : Int} (hS : Sb K N I R s b l) (hc : 0 ≤ c ∧ c < 128) (hl : l.length < 15) : gP G yJ5_append cJ5_append 2 ((some (FieldType.object "java/lang/AbstractStringBuilder"))) 1 0 0 [vR (some s), vI c] (K, N, I, R) nx (SbP K N I R nx s b (l ++ [c])) := by
  have hS2 := hS
  obtain ⟨⟨hK, hR, h1, h3⟩, ⟨hKb, hN⟩, hb, hcc, hl2, hs3, hb3⟩ := hS
  have hsb : s ≠ b := by intro e; rw [e] at hK; omega
  refine gP.of (by decide) rfl (Nat.le_of_ble_eq_true rfl) ?_
  refine x_ls (ls2 := [some (vR (some s)), some (vI c)]) rfl ?_
  refine x_aload_n dJ5_append_0 rfl ?_
  refine x_aload_n dJ5_append_1 rfl ?_
  refine g_getI 3 (ci := 15) (kf := 3) rfl (by decide) (by decide) rfl rfl q385 rfl (by first | assumption | grind) dJ5_append_2 ?_
  rw [h3]
  refine x_iconst dJ5_append_5 ?_
  refine x_iadd dJ5_append_6 ?_
  refine g_cUw1 (ci := 15) (jc_ensure hS2 (by omega)) "java/lang/AbstractStringBuilder" q404 q405 q402 q2723 (Or.inr (List.mem_of_getElem? (i := 4) rfl)) q404 q150 q405 (by decide +kernel) rfl (by decide) (by first | assumption | grind) (by decide) (Nat.le_of_ble_eq_true rfl) (by omega) (by omega) dJ5_append_7 (fun h2 n2 hp => ?_)
  obtain ⟨rfl, rfl⟩ := hp
  refine x_aload_n dJ5_append_10 rfl ?_
  refine g_cU0 (ci := 15) (jc_sblatin hK h1) "java/lang/AbstractStringBuilder" q434 q437 q433 q435 (Or.inl q436) q434 q150 q437 (by decide +kernel) rfl (by decide) (by first | assumption | grind) (by decide) (Nat.le_of_ble_eq_true rfl) (by omega) (by omega) dJ5_append_11 (fun v h2 n2 hp => ?_)
  obtain ⟨rfl, rfl, rfl⟩ := hp
  refine x_if_eq (t := 45) dJ5_append_14 (by decide) (by omega) (fun c_14 => absurd c_14 (by decide)) (fun c_14 => ?_)
  refine x_iload_n dJ5_append_17 rfl ?_
  refine g_cs1 (jc_canEncode hc) fJ11_canEncode q438 (by decide) (Nat.le_of_ble_eq_true rfl) (by omega) (by omega) dJ5_append_18 (fun v h2 n2 hp => ?_)
  obtain ⟨rfl, rfl, rfl⟩ := hp
  refine x_if_eq (t := 45) dJ5_append_21 (by decide) (by omega) (fun c_21 => absurd c_21 (by decide)) (fun c_21 => ?_)
  refine x_aload_n dJ5_append_24 rfl ?_
  refine g_getR 0 (r := some b) (ci := 15) (kf := 0) rfl (by decide) (by decide) rfl rfl q382 rfl (by first | assumption | grind) (hR) dJ5_append_25 ?_
  refine x_aload_n dJ5_append_28 rfl ?_
  refine x_dup dJ5_append_29 rfl ?_
  refine g_getI 3 (ci := 15) (kf := 3) rfl (by decide) (by decide) rfl rfl q385 rfl (by first | assumption | grind) dJ5_append_30 ?_
  rw [h3]
  refine x_dup_x1 dJ5_append_33 rfl rfl ?_
  refine x_iconst dJ5_append_34 ?_
  refine x_iadd dJ5_append_35 ?_
  refine g_putI 3 (ci := 15) (kf := 3) rfl (by decide) (by decide) rfl rfl q385 rfl (by first | assumption | grind) (by first | assumption | omega) (Or.inl rfl) (rr_nar_i _) dJ5_append_36 ?_
  refine x_iload_n dJ5_append_39 rfl ?_
  refine x_i2b dJ5_append_40 ?_
  rw [(rr_ch hc).2.1]
  refine g_bast (by first | assumption | grind) (by first | assumption | omega) rfl (by omega) (by omega) dJ5_append_41 ?_
  refine x_goto (t := 75) dJ5_append_42 (by decide) ?_
  refine x_aload_n dJ5_append_75 rfl ?_
  refine gp_aret rfl (Or.inl ⟨_, rfl⟩) dJ5_append_76 (by omega) (by omega) ?_
  refine ⟨rfl, rfl, _, rfl, ⟨⟨hK, hR, ?_, ?_⟩, ⟨hKb, hN⟩, fun i hi => ?_, fun d hd => ?_, by simp; omega, hs3, hb3⟩, fun x g1 g2 => ?_⟩
  · rw [rr_u2_ne _ _ (by omega), rr_u2_ne _ _ (by omega)]; exact h1
  · rw [rr_u2_ne _ _ (by omega), rr_u2_same]; simp
  · by_cases hil : i < l.length
    · rw [rr_u2_ne _ _ (by omega), rr_u2_ne _ _ (by omega), hb i hil]
      simp [List.getD_eq_getElem?_getD, List.getElem?_append_left hil]
    · have : i = l.length := by simp at hi; omega
      subst this
      rw [rr_u2_same]
      simp [List.getD_eq_getElem?_getD]
  · rcases List.mem_append.mp hd with q | q
    · exact hcc d q
    · simp at q; rw [q]; exact hc
  · funext j
    rw [rr_u2_ne _ _ (by omega), rr_u2_ne _ _ (by omega)]
theorem jc_append {c : Int} (hS : Sb K N I R s b l) (hc : 0 ≤ c ∧ c < 128) (hl : l.length < 15) : gP G yJ6_append cJ6_append 2 ((some (FieldType.object "java/lang/StringBuilder"))) 2 0 0 [vR (some s), vI c] (K, N, I, R) nx (SbP K N I R nx s b (l ++ [c])) := by
  have hK := hS.1.1
  refine gP.of (by decide) rfl (Nat.le_of_ble_eq_true rfl) ?_
  refine x_ls (ls2 := [some (vR (some s)), some (vI c)]) rfl ?_
  refine x_aload_n dJ6_append_0 rfl ?_
  refine x_iload_n dJ6_append_1 rfl ?_
  refine g_cSU1 (ci := 15) (jc_asbappend hS hc hl) q399 q2722 q394 q400 q150 q401 (by decide +kernel) rfl (by decide) (by first | assumption | grind) (by decide) (Nat.le_of_ble_eq_true rfl) (by omega) (by omega) dJ6_append_2 (fun v h2 n2 hp => ?_)
  obtain ⟨rfl, rfl, I2, rfl, hS2, hI2⟩ := hp
  refine x_pop dJ6_append_5 rfl ?_
  refine x_aload_n dJ6_append_6 rfl ?_
  refine gp_aret rfl (Or.inl ⟨_, rfl⟩) dJ6_append_7 (by omega) (by omega) ?_
  exact ⟨rfl, rfl, I2, rfl, hS2, hI2⟩
theorem jc_getValue (hS : Sb K N I R s b l) : gP G yJ5_getValue cJ5_getValue 1 ((some (FieldType.array FieldType.byte))) 0 0 0 [vR (some s)] (K, N, I, R) nx (gEq (vR (some b)) (K, N, I, R) nx) := by
  obtain ⟨⟨hK, hR, h1, h3⟩, -⟩ := hS
  refine gP.of (by decide) rfl (Nat.le_of_ble_eq_true rfl) ?_
  refine x_ls (ls2 := [some (vR (some s))]) rfl ?_
  refine x_aload_n dJ5_getValue_0 rfl ?_
  refine g_getR 0 (r := some b) (ci := 15) (kf := 0) rfl (by decide) (by decide) rfl rfl q382 rfl (by first | assumption | grind) (hR) dJ5_getValue_1 ?_
  refine gp_aret rfl (Or.inr ⟨_, rfl⟩) dJ5_getValue_4 (by omega) (by omega) ?_
  exact ⟨rfl, rfl, rfl⟩
theorem jc_asblen (hS : Sb K N I R s b l) : gP G yJ5_length cJ5_length 1 ((some FieldType.int)) 0 0 0 [vR (some s)] (K, N, I, R) nx (gEq (vI (l.length : Int)) (K, N, I, R) nx) := by
  obtain ⟨⟨hK, hR, h1, h3⟩, -⟩ := hS
  refine gP.of (by decide) rfl (Nat.le_of_ble_eq_true rfl) ?_
  refine x_ls (ls2 := [some (vR (some s))]) rfl ?_
  refine x_aload_n dJ5_length_0 rfl ?_
  refine g_getI 3 (ci := 15) (kf := 3) rfl (by decide) (by decide) rfl rfl q385 rfl (by first | assumption | grind) dJ5_length_1 ?_
  rw [h3]
  refine gp_iret rfl dJ5_length_4 (by omega) (by omega) ?_
  exact ⟨rfl, rfl, rfl⟩
theorem jc_sblen (hS : Sb K N I R s b l) : gP G yJ6_length cJ6_length 1 ((some FieldType.int)) 1 0 0 [vR (some s)] (K, N, I, R) nx (gEq (vI (l.length : Int)) (K, N, I, R) nx) := by
  have hK := hS.1.1
  refine gP.of (by decide) rfl (Nat.le_of_ble_eq_true rfl) ?_
  refine x_ls (ls2 := [some (vR (some s))]) rfl ?_
  refine x_aload_n dJ6_length_0 rfl ?_
  refine g_cSU0 (ci := 15) (jc_asblen hS) q510 q506 q394 q505 q150 q511 (by decide +kernel) rfl (by decide) (by first | assumption | grind) (by decide) (Nat.le_of_ble_eq_true rfl) (by omega) (by omega) dJ6_length_1 (fun v h2 n2 hp => ?_)
  obtain ⟨rfl, rfl, rfl⟩ := hp
  refine gp_iret rfl dJ6_length_4 (by omega) (by omega) ?_
  exact ⟨rfl, rfl, rfl⟩
/-- what String's constructor leaves: the bytes at nx -/
def SiP (K N : Nat → Nat) (I : Nat → Int → Int) (R : Nat → Int → Option Nat) (nx z : Nat) (l : List Int) : rr_H → Nat → Prop := fun h2 n2 => nx + 1 = n2 ∧ ∃ (K2 N2 : Nat → Nat) (I2 : Nat → Int → Int) (R2 : Nat → Int → Option Nat), h2 = (K2, N2, I2, R2) ∧ Str K2 N2 I2 R2 z nx l ∧ ∀ x, x ≠ nx → x ≠ z → K2 x = K x ∧ N2 x = N x ∧ I2 x = I x ∧ R2 x = R x
theorem jc_sinit2 {z : Nat} (hS : Sb K N I R s b l) (hK : K z = 14) (hz : 300 ≤ z) : gW G yJ7_init_2 cJ7_init_2 5 (none) 3 1 l.length [vR (some z), vR (some s), vR none] (K, N, I, R) nx (SiP K N I R nx z l) := by
  have hS2 := hS
  obtain ⟨⟨hKs, hR, h1, h3⟩, ⟨hKb, hN⟩, hb, hcc, hl2, hs3, hb3⟩ := hS
  have hbz : b ≠ z := by intro e; rw [e] at hKb; omega
  refine gW.of (by decide) rfl (Nat.le_of_ble_eq_true rfl) ?_
  refine x_ls (ls2 := [some (vR (some z)), some (vR (some s)), some (vR none), none, none]) rfl ?_
  refine x_live (fun hlv h3x => ?_)
  have hzx : z ≠ nx := by
    have := hlv z (by show K z ≠ 0; omega)
    omega
  have hat : ∀ j : Int, 0 ≤ j → j < l.length → rr_u2 I z 1 0 b j = l.getD j.toNat 0 ∧ 0 ≤ rr_u2 I z 1 0 b j ∧ rr_u2 I z 1 0 b j < 128 := by
    intro j h0 hj
    have e := hb j.toNat (by omega)
    rw [show ((j.toNat : Nat) : Int) = j by omega] at e
    have hm : l.getD j.toNat 0 ∈ l := by
      rw [List.getD_eq_getElem?_getD, List.getElem?_eq_getElem (by omega)]
      exact List.getElem_mem _
    rw [rr_u2_ne _ _ (by omega), e]
    exact ⟨rfl, hcc _ hm⟩
  refine x_aload_n dJ7_init_2_0 rfl ?_
  refine x_oinit q498 q197 q198 (by decide) (Nat.le_of_ble_eq_true rfl) dJ7_init_2_1 ?_
  refine x_aload_n dJ7_init_2_4 rfl ?_
  refine g_cU0 (ci := 15) (jc_getValue hS2) "java/lang/AbstractStringBuilder" q500 q503 q499 q501 (Or.inl q502) q500 q150 q503 (by decide +kernel) rfl (by decide) (by first | assumption | grind) (by decide) (Nat.le_of_ble_eq_true rfl) (by omega) (by omega) dJ7_init_2_5 (fun v h2 n2 hp => ?_)
  obtain ⟨rfl, rfl, rfl⟩ := hp
  refine x_astore_n dJ7_init_2_8 (by decide) ?_
  refine x_aload_n dJ7_init_2_9 rfl ?_
  refine g_cU0 (ci := 15) (jc_sblen hS2) "java/lang/AbstractStringBuilder" q505 q511 q504 q506 (Or.inl q507) q508 q151 q509 (by decide +kernel) rfl (by decide) (by first | assumption | grind) (by decide) (Nat.le_of_ble_eq_true rfl) (by omega) (by omega) dJ7_init_2_10 (fun v h2 n2 hp => ?_)
  obtain ⟨rfl, rfl, rfl⟩ := hp
  refine x_istore dJ7_init_2_13 (by decide) ?_
  refine x_aload_n dJ7_init_2_15 rfl ?_
  refine g_cU0 (ci := 15) (jc_sblatin hKs h1) "java/lang/AbstractStringBuilder" q434 q437 q512 q435 (Or.inl q436) q434 q150 q437 (by decide +kernel) rfl (by decide) (by first | assumption | grind) (by decide) (Nat.le_of_ble_eq_true rfl) (by omega) (by omega) dJ7_init_2_16 (fun v h2 n2 hp => ?_)
  obtain ⟨rfl, rfl, rfl⟩ := hp
  refine x_if_eq (t := 41) dJ7_init_2_19 (by decide) (by omega) (fun c_19 => absurd c_19 (by decide)) (fun c_19 => ?_)
  refine x_aload_n dJ7_init_2_22 rfl ?_
  refine x_iconst dJ7_init_2_23 ?_
  refine g_putI 1 (ci := 14) (kf := 1) rfl (by decide) (by decide) rfl rfl q537 rfl (by first | assumption | grind) (by first | assumption | omega) (Or.inr ⟨rfl, rfl, rfl⟩) (rr_nar_b (by decide)) dJ7_init_2_24 ?_
  refine x_aload_n dJ7_init_2_27 rfl ?_
  refine x_aload_n dJ7_init_2_28 rfl ?_
  refine x_iconst dJ7_init_2_29 ?_
  refine x_iload dJ7_init_2_30 rfl ?_
  refine x_top (0 + (l.length : Int)) (by omega) ?_
  refine g_cs3 (jc_copyOfRange (n := l.length) hKb (by rw [hN]; omega) (by rw [hN]; omega) (fun j g1 g2 => by have := hat j g1 (by omega); omega)) fJ10_copyOfRange q513 (by decide) (Nat.le_of_ble_eq_true rfl) (by omega) (by omega) dJ7_init_2_32 (fun v h2 n2 hp => ?_)
  obtain ⟨rfl, rfl, f, rfl, hf⟩ := hp
  refine g_putR 0 (ci := 14) (kf := 0) rfl (by decide) (by decide) rfl rfl q536 rfl (by simp [rr_u1, hzx, hK]) (by first | assumption | omega) (Or.inr ⟨rfl, rfl, rfl⟩) dJ7_init_2_35 ?_
  refine x_goto (t := 97) dJ7_init_2_38 (by decide) ?_
  refine gw_vret rfl dJ7_init_2_97 (by omega) (by omega) ?_
  refine ⟨rfl, _, _, _, _, rfl, ⟨⟨by simp [rr_u1, hzx, hK], by simp [rr_u2], by simp [rr_u1, rr_u2, hzx]⟩, ⟨by simp [rr_u1], by simp [rr_u1]⟩, fun i hi => ?_, hcc, by omega⟩, fun x g1 g2 => ?_⟩
  · have e := hat i (by omega) (by omega)
    rw [show rr_u1 (rr_u2 I z 1 0) nx f nx = f by simp [rr_u1], hf i (by omega) (by omega)]
    simp only [Int.zero_add]
    rw [e.1]; simp
  · refine ⟨by simp [rr_u1, g1], by simp [rr_u1, g1], ?_, ?_⟩
    · funext j; simp [rr_u1, rr_u2, g1, g2]
    · funext j; simp [rr_u1, rr_u2, g1, g2]
theorem jc_sinit1 {z : Nat} (hS : Sb K N I R s b l) (hK : K z = 14) (hz : 300 ≤ z) : gW G yJ7_init cJ7_init 2 (none) 4 1 l.length [vR (some z), vR (some s)] (K, N, I, R) nx (SiP K N I R nx z l) := by
  refine gW.of (by decide) rfl (Nat.le_of_ble_eq_true rfl) ?_
  refine x_ls (ls2 := [some (vR (some z)), some (vR (some s))]) rfl ?_
  refine x_aload_n dJ7_init_0 rfl ?_
  refine x_aload_n dJ7_init_1 rfl ?_
  refine x_null dJ7_init_2 ?_
  refine g_ci2 (jc_sinit2 hS hK hz) fJ7_init_2 q495 (by decide) (Nat.le_of_ble_eq_true rfl) (by omega) (by omega) dJ7_init_3 (fun h2 n2 hp => ?_)
  refine gw_vret rfl dJ7_init_6 (by omega) (by omega) ?_
  exact hp
theorem jc_toString (hS : Sb K N I R s b l) : gP G yJ6_toString cJ6_toString 1 ((some (FieldType.object "java/lang/String"))) 5 2 (4 + l.length) [vR (some s)] (K, N, I, R) nx (AlS K N I R nx l) := by
  have hS2 := hS
  obtain ⟨⟨hKs, hR, h1, h3⟩, ⟨hKb, hN⟩, hb, hcc, hl2, hs3, hb3⟩ := hS
  refine gP.of (by decide) rfl (Nat.le_of_ble_eq_true rfl) ?_
  refine x_ls (ls2 := [some (vR (some s))]) rfl ?_
  refine x_live (fun hlv h3x => ?_)
  have hsx : s ≠ nx := by
    have := hlv s (by show K s ≠ 0; omega)
    omega
  have hbx : b ≠ nx := by
    have := hlv b (by show K b ≠ 0; omega)
    omega
  have hS3 : Sb (rr_u1 K nx 14) (rr_u1 N nx 0) (rr_u1 I nx (fun _ => 0)) (rr_u1 R nx (fun _ => none)) s b l := by
    refine ⟨⟨by simp [rr_u1, hsx, hKs], by simp [rr_u1, hsx, hR], by simp [rr_u1, hsx, h1], by simp [rr_u1, hsx, h3]⟩, ⟨by simp [rr_u1, hbx, hKb], by simp [rr_u1, hbx, hN]⟩, fun i hi => ?_, hcc, hl2, hs3, hb3⟩
    simp only [rr_u1, if_neg hbx]
    exact hb i hi
  refine g_new 14 rfl (by decide) q490 q491 q152 (by omega) (by omega) dJ6_toString_0 ?_
  refine x_dup dJ6_toString_3 rfl ?_
  refine x_aload_n dJ6_toString_4 rfl ?_
  refine g_ci1 (jc_sinit1 hS3 (by simp [rr_u1]) h3x) fJ7_init q492 (by decide) (Nat.le_of_ble_eq_true rfl) (by omega) (by omega) dJ6_toString_5 (fun h2 n2 hp => ?_)
  obtain ⟨rfl, K2, N2, I2, R2, rfl, hS4, hfr⟩ := hp
  refine gp_aret rfl (Or.inl ⟨_, rfl⟩) dJ6_toString_8 (by omega) (by omega) ?_
  refine ⟨nx, nx + 1, K2, N2, I2, R2, rfl, rfl, hS4, fun x hx => ?_, by omega, h3x⟩
  obtain ⟨g1, g2, g3, g4⟩ := hfr x (by omega) (by omega)
  have hx2 : x ≠ nx := by omega
  exact ⟨by rw [g1]; simp [rr_u1, hx2], by rw [g2]; simp [rr_u1, hx2], by rw [g3]; simp [rr_u1, hx2], by rw [g4]; simp [rr_u1, hx2]⟩
end STR
