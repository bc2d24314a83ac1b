/-! STRINGS 2: pieces of them, made anew -/
set_option maxRecDepth 100000
/-- cells below nx stay as they are -/
def Fr (K N : Nat → Nat) (I : Nat → Int → Int) (R : Nat → Int → Option Nat) (K2 N2 : Nat → Nat) (I2 : Nat → Int → Int) (R2 : Nat → Int → Option Nat) (nx : Nat) : Prop := ∀ x, x < nx → K2 x = K x ∧ N2 x = N x ∧ I2 x = I x ∧ R2 x = R x
section STR
variable {G : rr_G} {nx nx2 : Nat} {K N K2 N2 K3 N3 : Nat → Nat} {I I2 I3 : Nat → Int → Int} {R R2 R3 : Nat → Int → Option Nat} {s b : Nat} {l : List Int}
theorem Fr.rf : Fr K N I R K N I R nx := fun _ _ => ⟨rfl, rfl, rfl, rfl⟩
theorem Fr.tr (h : Fr K N I R K2 N2 I2 R2 nx) (h2 : Fr K2 N2 I2 R2 K3 N3 I3 R3 nx2) (hn : nx ≤ nx2) : Fr K N I R K3 N3 I3 R3 nx := by
  intro x hx
  obtain ⟨a1, a2, a3, a4⟩ := h x hx
  obtain ⟨b1, b2, b3, b4⟩ := h2 x (by omega)
  exact ⟨b1.trans a1, b2.trans a2, b3.trans a3, b4.trans a4⟩
theorem Fr.up {k n : Nat} {f : Int → Int} {r : Int → Option Nat} : Fr K N I R (rr_u1 K nx k) (rr_u1 N nx n) (rr_u1 I nx f) (rr_u1 R nx r) nx := by
  intro x hx
  have : x ≠ nx := by omega
  simp [rr_u1, this]
theorem Str.fr (h : Str K N I R s b l) (hf : Fr K N I R K2 N2 I2 R2 nx) (h1 : s < nx) (h2 : b < nx) : Str K2 N2 I2 R2 s b l := h.keep (hf s h1).1 (hf s h1).2.2.2 (hf s h1).2.2.1 (hf b h2).1 (hf b h2).2.1 (hf b h2).2.2.1
def NewB (K N : Nat → Nat) (I : Nat → Int → Int) (R : Nat → Int → Option Nat) (nx n : Nat) (g : Int → Int) : rr_V → rr_H → Nat → Prop := fun v h2 n2 => v = vR (some nx) ∧ n2 = nx + 1 ∧ ∃ f : Int → Int, h2 = (rr_u1 K nx 65, rr_u1 N nx n, rr_u1 I nx f, rr_u1 R nx (fun _ => none)) ∧ ∀ j, 0 ≤ j → j < (n : Int) → f j = g j
theorem jc_checkLength {a c : Int} {h : rr_H} (hi : a ≤ c) (hn : -2147483648 ≤ a ∧ c < 2147483648) : gW G yJ10_checkLength cJ10_checkLength 2 (none) 0 0 0 [vI a, vI c] h nx (gEw h nx) := by
  refine gW.of (by decide) rfl (Nat.le_of_ble_eq_true rfl) ?_
  refine x_ls (ls2 := [some (vI a), some (vI c)]) rfl ?_
  refine x_iload_n dJ10_checkLength_0 rfl ?_
  refine x_iload_n dJ10_checkLength_1 rfl ?_
  refine x_icmp_ge (t := 37) dJ10_checkLength_2 (by decide) (by omega) (fun c_2 => ?_) (fun c_2 => absurd (by omega) c_2)
  refine gw_vret rfl dJ10_checkLength_37 (by omega) (by omega) ?_
  exact ⟨rfl, rfl⟩
theorem jc_copyOfRangeByte {fr : Int} {n : Nat} (hKb : K b = 65) (hb : 0 ≤ fr ∧ fr + n ≤ (N b : Int)) (hN : (N b : Int) < 1000) (hc : ∀ j, fr ≤ j → j < fr + n → -128 ≤ I b j ∧ I b j < 128) : gP G yJ10_copyOfRangeByte cJ10_copyOfRangeByte 5 ((some (FieldType.array FieldType.byte))) 1 1 n [vR (some b), vI fr, vI (fr + n)] (K, N, I, R) nx (NewB K N I R nx n (fun j => I b (fr + j))) := by
  refine gP.of (by decide) rfl (Nat.le_of_ble_eq_true rfl) ?_
  refine x_ls (ls2 := [some (vR (some b)), some (vI fr), some (vI (fr + n)), none, none]) rfl ?_
  refine x_live (fun hlv h3 => ?_)
  have hbx : b ≠ nx := by
    have := hlv b (by show K b ≠ 0; omega)
    omega
  have eK : rr_u1 K nx (64 + 1) b = 65 := by simp [rr_u1, hbx, hKb]
  have eKx : rr_u1 K nx (64 + 1) nx = 65 := by simp [rr_u1]
  have eN : rr_u1 N nx n b = N b := by simp [rr_u1, hbx]
  have eNx : rr_u1 N nx n nx = n := by simp [rr_u1]
  refine x_iload_n dJ10_copyOfRangeByte_0 rfl ?_
  refine x_iload_n dJ10_copyOfRangeByte_1 rfl ?_
  refine g_ct2 (jc_checkLength (by omega) (by omega)) fJ10_checkLength q519 (by decide) (Nat.le_of_ble_eq_true rfl) (by omega) (by omega) dJ10_copyOfRangeByte_2 (fun h2 n2 hp => ?_)
  obtain ⟨rfl, rfl⟩ := hp
  refine x_iload_n dJ10_copyOfRangeByte_5 rfl ?_
  refine x_iload_n dJ10_copyOfRangeByte_6 rfl ?_
  refine x_isub dJ10_copyOfRangeByte_7 ?_
  refine x_istore_n dJ10_copyOfRangeByte_8 (by decide) ?_
  refine x_iload_n dJ10_copyOfRangeByte_9 rfl ?_
  refine g_newa 1 (n) (aty := .byte) rfl rfl rfl q257 (by omega) (by omega) (by omega) (by omega) dJ10_copyOfRangeByte_10 ?_
  refine x_astore dJ10_copyOfRangeByte_12 (by decide) ?_
  refine x_aload_n dJ10_copyOfRangeByte_14 rfl ?_
  refine x_iload_n dJ10_copyOfRangeByte_15 rfl ?_
  refine x_aload dJ10_copyOfRangeByte_16 rfl ?_
  refine x_iconst dJ10_copyOfRangeByte_18 ?_
  refine x_aload_n dJ10_copyOfRangeByte_19 rfl ?_
  refine g_alen (t := 1) rfl (eK) (eN) dJ10_copyOfRangeByte_20 ?_
  refine x_iload_n dJ10_copyOfRangeByte_21 rfl ?_
  refine x_isub dJ10_copyOfRangeByte_22 ?_
  refine x_iload_n dJ10_copyOfRangeByte_23 rfl ?_
  refine x_mmin (by omega) q429 (by decide) (Nat.le_of_ble_eq_true rfl) dJ10_copyOfRangeByte_24 ?_ (by omega) (by omega)
  refine g_cpyI 1 rfl rfl rfl q430 q432 q431 q156 (eK) (eKx) (by first | assumption | omega) (by omega) (by omega) (fun j h1 h2 => (rr_nar_b (by rw [show rr_u1 I nx (fun _ => 0) b j = I b j by simp [rr_u1, hbx]]; exact hc j (by omega) (by omega))).2) (by decide) (Nat.le_of_ble_eq_true rfl) dJ10_copyOfRangeByte_27 ?_
  refine x_aload dJ10_copyOfRangeByte_30 rfl ?_
  refine gp_aret rfl (Or.inr ⟨_, rfl⟩) dJ10_copyOfRangeByte_32 (by omega) (by omega) ?_
  refine ⟨rfl, rfl, fun j => if 0 ≤ j ∧ j < (n : Int) then I b (fr + j) else 0, ?_, fun j h1 h2 => if_pos ⟨h1, h2⟩⟩
  refine tI ?_
  funext w j
  unfold rr_cpy rr_u1
  by_cases hw : w = nx
  · subst hw
    by_cases hj : 0 ≤ j ∧ j < (n : Int)
    · rw [if_pos ⟨rfl, by omega, by omega⟩, if_neg hbx, if_pos rfl, if_pos hj]
      congr 1; omega
    · rw [if_neg (by omega), if_pos rfl, if_pos rfl, if_neg hj]
  · simp [hw]
theorem jc_copyOfRange {fr : Int} {n : Nat} (hKb : K b = 65) (hb : 0 ≤ fr ∧ fr + n ≤ (N b : Int)) (hN : (N b : Int) < 1000) (hc : ∀ j, fr ≤ j → j < fr + n → -128 ≤ I b j ∧ I b j < 128) : gP G yJ10_copyOfRange cJ10_copyOfRange 3 ((some (FieldType.array FieldType.byte))) 2 1 n [vR (some b), vI fr, vI (fr + n)] (K, N, I, R) nx (NewB K N I R nx n (fun j => I b (fr + j))) := by
  refine gP.of (by decide) rfl (Nat.le_of_ble_eq_true rfl) ?_
  refine x_ls (ls2 := [some (vR (some b)), some (vI fr), some (vI (fr + n))]) rfl ?_
  refine x_iload_n dJ10_copyOfRange_0 rfl ?_
  refine x_if_ne (t := 10) dJ10_copyOfRange_1 (by decide) (by omega) (fun c_1 => ?_) (fun c_1 => ?_)
  · skip
    refine x_aload_n dJ10_copyOfRange_10 rfl ?_
    refine x_iload_n dJ10_copyOfRange_11 rfl ?_
    refine x_iload_n dJ10_copyOfRange_12 rfl ?_
    refine g_cs3 (jc_copyOfRangeByte hKb hb hN hc) fJ10_copyOfRangeByte q516 (by decide) (Nat.le_of_ble_eq_true rfl) (by omega) (by omega) dJ10_copyOfRange_13 (fun v h2 n2 hp => ?_)
    obtain ⟨rfl, rfl, f, rfl, hf⟩ := hp
    refine gp_aret rfl (Or.inr ⟨_, rfl⟩) dJ10_copyOfRange_16 (by omega) (by omega) ?_
    exact ⟨rfl, rfl, f, rfl, hf⟩
  · skip
    refine x_iload_n dJ10_copyOfRange_4 rfl ?_
    refine x_aload_n dJ10_copyOfRange_5 rfl ?_
    refine g_alen (t := 1) rfl (by first | assumption | grind) (rfl) dJ10_copyOfRange_6 ?_
    refine x_icmp_eq (t := 17) dJ10_copyOfRange_7 (by decide) (by omega) (fun c_7 => ?_) (fun c_7 => ?_)
    · skip
      refine x_aload_n dJ10_copyOfRange_17 rfl ?_
      refine g_clone 1 rfl rfl (by decide) rr_ra_byte q422 q423 q424 q425 q426 q427 (by first | assumption | grind) (show N b = n by omega) (fun j hj => (rr_nar_b (hc j (by omega) (by omega))).2) (by decide) (Nat.le_of_ble_eq_true rfl) (by omega) (by omega) dJ10_copyOfRange_18 ?_
      refine g_castA 1 rfl rr_ra_byte q428 (by simp [rr_u1]) dJ10_copyOfRange_21 ?_
      refine gp_aret rfl (Or.inr ⟨_, rfl⟩) dJ10_copyOfRange_24 (by omega) (by omega) ?_
      refine ⟨rfl, rfl, I b, rfl, fun j h1 h2 => ?_⟩
      congr 1; omega
    · skip
      refine x_aload_n dJ10_copyOfRange_10 rfl ?_
      refine x_iload_n dJ10_copyOfRange_11 rfl ?_
      refine x_iload_n dJ10_copyOfRange_12 rfl ?_
      refine g_cs3 (jc_copyOfRangeByte hKb hb hN hc) fJ10_copyOfRangeByte q516 (by decide) (Nat.le_of_ble_eq_true rfl) (by omega) (by omega) dJ10_copyOfRange_13 (fun v h2 n2 hp => ?_)
      obtain ⟨rfl, rfl, f, rfl, hf⟩ := hp
      refine gp_aret rfl (Or.inr ⟨_, rfl⟩) dJ10_copyOfRange_16 (by omega) (by omega) ?_
      exact ⟨rfl, rfl, f, rfl, hf⟩
theorem jc_sinit {z v : Nat} (hK : K z = 14) (hz : 300 ≤ z) : gW G yJ7_init_3 cJ7_init_3 3 (none) 1 0 0 [vR (some z), vR (some v), vI 0] (K, N, I, R) nx (gEw (K, N, rr_u2 I z 1 0, rr_u2 R z 0 (some v)) nx) := by
  refine gW.of (by decide) rfl (Nat.le_of_ble_eq_true rfl) ?_
  refine x_ls (ls2 := [some (vR (some z)), some (vR (some v)), some (vI 0)]) rfl ?_
  refine x_aload_n dJ7_init_3_0 rfl ?_
  refine x_oinit q498 q197 q198 (by decide) (Nat.le_of_ble_eq_true rfl) dJ7_init_3_1 ?_
  refine x_aload_n dJ7_init_3_4 rfl ?_
  refine x_aload_n dJ7_init_3_5 rfl ?_
  refine g_putR 0 (ci := 14) (kf := 0) rfl (by decide) (by decide) rfl rfl q536 rfl (by first | assumption | grind) (by first | assumption | omega) (Or.inr ⟨rfl, rfl, rfl⟩) dJ7_init_3_6 ?_
  refine x_aload_n dJ7_init_3_9 rfl ?_
  refine x_iload_n dJ7_init_3_10 rfl ?_
  refine g_putI 1 (ci := 14) (kf := 1) rfl (by decide) (by decide) rfl rfl q537 rfl (by first | assumption | grind) (by first | assumption | omega) (Or.inr ⟨rfl, rfl, rfl⟩) (rr_nar_b (by decide)) dJ7_init_3_11 ?_
  refine gw_vret rfl dJ7_init_3_14 (by omega) (by omega) ?_
  exact ⟨rfl, rfl⟩
/-- a String that stands in the new heap, all old cells stay -/
def AlS (K N : Nat → Nat) (I : Nat → Int → Int) (R : Nat → Int → Option Nat) (nx : Nat) (l : List Int) : rr_V → rr_H → Nat → Prop := fun v h2 n2 => ∃ (s b : Nat) (K2 N2 : Nat → Nat) (I2 : Nat → Int → Int) (R2 : Nat → Int → Option Nat), v = vR (some s) ∧ h2 = (K2, N2, I2, R2) ∧ Str K2 N2 I2 R2 s b l ∧ Fr K N I R K2 N2 I2 R2 nx ∧ nx ≤ n2 ∧ 300 ≤ s
theorem jc_newString {fr : Int} {n : Nat} (hn : 0 < n) (hKb : K b = 65) (hb : 0 ≤ fr ∧ fr + n ≤ (N b : Int)) (hN : (N b : Int) < 1000) (hc : ∀ j, 0 ≤ j → j < (N b : Int) → 0 ≤ I b j ∧ I b j < 128) (hl : l.length = n) (hlb : ∀ i : Nat, i < n → l.getD i 0 = I b (fr + i)) : gP G yJ11_newString cJ11_newString 3 ((some (FieldType.object "java/lang/String"))) 3 2 (4 + n) [vR (some b), vI fr, vI (n : Int)] (K, N, I, R) nx (AlS K N I R nx l) := by
  refine gP.of (by decide) rfl (Nat.le_of_ble_eq_true rfl) ?_
  refine x_ls (ls2 := [some (vR (some b)), some (vI fr), some (vI (n : Int))]) rfl ?_
  refine x_live (fun hlv h3 => ?_)
  have hbx : b ≠ nx := by
    have := hlv b (by show K b ≠ 0; omega)
    omega
  have hbl : b < nx := hlv b (by show K b ≠ 0; omega)
  have eK : rr_u1 K nx 14 b = 65 := by simp [rr_u1, hbx, hKb]
  have eN : rr_u1 N nx 0 b = N b := by simp [rr_u1, hbx]
  have eI : rr_u1 I nx (fun _ => 0) b = I b := by simp [rr_u1, hbx]
  refine x_iload_n dJ11_newString_0 rfl ?_
  refine x_if_ne (t := 7) dJ11_newString_1 (by decide) (by omega) (fun c_1 => ?_) (fun c_1 => absurd c_1 (by omega))
  refine g_new 14 rfl (by decide) q578 q491 q152 (by omega) (by omega) dJ11_newString_7 ?_
  refine x_dup dJ11_newString_10 rfl ?_
  refine x_aload_n dJ11_newString_11 rfl ?_
  refine x_iload_n dJ11_newString_12 rfl ?_
  refine x_iload_n dJ11_newString_13 rfl ?_
  refine x_iload_n dJ11_newString_14 rfl ?_
  refine x_iadd dJ11_newString_15 ?_
  refine g_cs3 (jc_copyOfRange (nx := nx + 1) (n := n) eK (by rw [eN]; exact hb) (by rw [eN]; exact hN) (fun j h1 h2 => by rw [eI]; have := hc j (by omega) (by omega); omega)) fJ10_copyOfRange q579 (by decide) (Nat.le_of_ble_eq_true rfl) (by omega) (by omega) dJ11_newString_16 (fun v h2 n2 hp => ?_)
  obtain ⟨rfl, rfl, f, rfl, hf⟩ := hp
  refine x_iconst dJ11_newString_19 ?_
  refine g_ci2 (jc_sinit (by simp [rr_u1]) h3) fJ7_init_3 q580 (by decide) (Nat.le_of_ble_eq_true rfl) (by omega) (by omega) dJ11_newString_20 (fun h2 n2 hp => ?_)
  obtain ⟨rfl, rfl⟩ := hp
  refine gp_aret rfl (Or.inl ⟨_, rfl⟩) dJ11_newString_23 (by omega) (by omega) ?_
  refine ⟨nx, nx + 1, _, _, _, _, rfl, rfl, ⟨⟨by simp [rr_u1], by simp [rr_u2], by simp [rr_u2]⟩, ⟨by simp [rr_u1], by simp [rr_u1, hl]⟩, fun i hi => ?_, fun c hc2 => ?_, by omega⟩, fun x hx => ?_, by omega, h3⟩
  · rw [rr_u2_ne _ _ (by omega)]
    rw [show rr_u1 (rr_u1 I nx (fun _ => 0)) (nx + 1) f (nx + 1) = f by simp [rr_u1], hf i (by omega) (by omega), hlb i (by omega), eI]
  · obtain ⟨i, hi⟩ := List.getElem?_of_mem hc2
    have hil := (List.getElem?_eq_some_iff.mp hi).1
    have e := hlb i (by omega)
    rw [List.getD_eq_getElem?_getD, hi] at e
    have := hc (fr + i) (by omega) (by omega)
    simp at e
    rw [e]; exact this
  · have h1 : x ≠ nx := by omega
    have h2 : x ≠ nx + 1 := by omega
    refine ⟨by simp [rr_u1, h1, h2], by simp [rr_u1, h1, h2], ?_, ?_⟩
    · funext j; simp [rr_u1, rr_u2, h1, h2]
    · funext j; simp [rr_u1, rr_u2, h1, h2]
theorem jc_pfromto {a c n : Int} {f : Option Nat} {h : rr_H} (hi : 0 ≤ a ∧ a ≤ c ∧ c ≤ n) (hn : n < 2147483648) : gP G yJ12_checkFromToIndex cJ12_checkFromToIndex 4 ((some FieldType.int)) 0 0 0 [vI a, vI c, vI n, vR f] h nx (gEq (vI a) h nx) := by
  refine gP.of (by decide) rfl (Nat.le_of_ble_eq_true rfl) ?_
  refine x_ls (ls2 := [some (vI a), some (vI c), some (vI n), some (vR f)]) rfl ?_
  refine x_iload_n dJ12_checkFromToIndex_0 rfl ?_
  refine x_if_lt (t := 14) dJ12_checkFromToIndex_1 (by decide) (by omega) (fun c_1 => absurd c_1 (by omega)) (fun c_1 => ?_)
  refine x_iload_n dJ12_checkFromToIndex_4 rfl ?_
  refine x_iload_n dJ12_checkFromToIndex_5 rfl ?_
  refine x_icmp_gt (t := 14) dJ12_checkFromToIndex_6 (by decide) (by omega) (fun c_6 => absurd c_6 (by omega)) (fun c_6 => ?_)
  refine x_iload_n dJ12_checkFromToIndex_9 rfl ?_
  refine x_iload_n dJ12_checkFromToIndex_10 rfl ?_
  refine x_icmp_le (t := 22) dJ12_checkFromToIndex_11 (by decide) (by omega) (fun c_11 => ?_) (fun c_11 => absurd (by omega) c_11)
  refine x_iload_n dJ12_checkFromToIndex_22 rfl ?_
  refine gp_iret rfl dJ12_checkFromToIndex_23 (by omega) (by omega) ?_
  exact ⟨rfl, rfl, rfl⟩
theorem jc_checkBE {a c n : Int} {h : rr_H} (hi : 0 ≤ a ∧ a ≤ c ∧ c ≤ n) (hn : n < 2147483648) : gW G yJ7_checkBoundsBeginEnd cJ7_checkBoundsBeginEnd 3 (none) 1 0 0 [vI a, vI c, vI n] h nx (gEw h nx) := by
  refine gW.of (by decide) rfl (Nat.le_of_ble_eq_true rfl) ?_
  refine x_ls (ls2 := [some (vI a), some (vI c), some (vI n)]) rfl ?_
  refine x_iload_n dJ7_checkBoundsBeginEnd_0 rfl ?_
  refine x_iload_n dJ7_checkBoundsBeginEnd_1 rfl ?_
  refine x_iload_n dJ7_checkBoundsBeginEnd_2 rfl ?_
  refine x_gets 1 rfl q460 rfl dJ7_checkBoundsBeginEnd_3 ?_
  refine g_cs4 (jc_pfromto hi hn) fJ12_checkFromToIndex q567 (by decide) (Nat.le_of_ble_eq_true rfl) (by omega) (by omega) dJ7_checkBoundsBeginEnd_6 (fun v h2 n2 hp => ?_)
  obtain ⟨rfl, rfl, rfl⟩ := hp
  refine x_pop dJ7_checkBoundsBeginEnd_9 rfl ?_
  refine gw_vret rfl dJ7_checkBoundsBeginEnd_10 (by omega) (by omega) ?_
  exact ⟨rfl, rfl⟩
theorem jc_substring {a c : Nat} (hS : Str K N I R s b l) (hs : 300 ≤ s) (hac : a < c ∧ c ≤ l.length) : gP G yJ7_substring cJ7_substring 5 ((some (FieldType.object "java/lang/String"))) 4 2 (4 + (c - a)) [vR (some s), vI (a : Int), vI (c : Int)] (K, N, I, R) nx (AlS K N I R nx ((l.drop a).take (c - a))) := by
  have hS2 := hS
  obtain ⟨⟨hK, hR, h1⟩, ⟨hKb, hN⟩, hb, hc, hl⟩ := hS
  refine gP.of (by decide) rfl (Nat.le_of_ble_eq_true rfl) ?_
  refine x_ls (ls2 := [some (vR (some s)), some (vI (a : Int)), some (vI (c : Int)), none, none]) rfl ?_
  refine x_aload_n dJ7_substring_0 rfl ?_
  refine g_cv0 (ci := 14) (jc_length hS2) fJ7_length q563 rfl (by decide) (by first | assumption | grind) (by decide) (Nat.le_of_ble_eq_true rfl) (by omega) (by omega) dJ7_substring_1 (fun v h2 n2 hp => ?_)
  obtain ⟨rfl, rfl, rfl⟩ := hp
  refine x_istore_n dJ7_substring_4 (by decide) ?_
  refine x_iload_n dJ7_substring_5 rfl ?_
  refine x_iload_n dJ7_substring_6 rfl ?_
  refine x_iload_n dJ7_substring_7 rfl ?_
  refine g_ct3 (jc_checkBE (by omega) (by omega)) fJ7_checkBoundsBeginEnd q564 (by decide) (Nat.le_of_ble_eq_true rfl) (by omega) (by omega) dJ7_substring_8 (fun h2 n2 hp => ?_)
  obtain ⟨rfl, rfl⟩ := hp
  refine x_iload_n dJ7_substring_11 rfl ?_
  refine x_if_ne (t := 22) dJ7_substring_12 (by decide) (by omega) (fun c_12 => ?_) (fun c_12 => ?_)
  · skip
    refine x_iload_n dJ7_substring_22 rfl ?_
    refine x_iload_n dJ7_substring_23 rfl ?_
    refine x_isub dJ7_substring_24 ?_
    refine x_istore dJ7_substring_25 (by decide) ?_
    refine x_aload_n dJ7_substring_27 rfl ?_
    refine g_cv0 (ci := 14) (jc_isLatin1 hK h1) fJ7_isLatin1 q570 rfl (by decide) (by first | assumption | grind) (by decide) (Nat.le_of_ble_eq_true rfl) (by omega) (by omega) dJ7_substring_28 (fun v h2 n2 hp => ?_)
    obtain ⟨rfl, rfl, rfl⟩ := hp
    refine x_if_eq (t := 47) dJ7_substring_31 (by decide) (by omega) (fun c_31 => absurd c_31 (by decide)) (fun c_31 => ?_)
    refine x_aload_n dJ7_substring_34 rfl ?_
    refine g_getR 0 (r := some b) (ci := 14) (kf := 0) rfl (by decide) (by decide) rfl rfl q536 rfl (by first | assumption | grind) (hR) dJ7_substring_35 ?_
    refine x_iload_n dJ7_substring_38 rfl ?_
    refine x_iload dJ7_substring_39 rfl ?_
    refine x_top ((c - a : Nat) : Int) (by omega) ?_
    have hlb : ∀ i : Nat, i < c - a → ((l.drop a).take (c - a)).getD i 0 = I b ((a : Int) + i) := by
      intro i hi
      rw [show ((a : Int) + i) = ((a + i : Nat) : Int) by omega, hb (a + i) (by omega), List.getD_eq_getElem?_getD, List.getD_eq_getElem?_getD, List.getElem?_take, if_pos hi, List.getElem?_drop]
    refine g_cs3 (jc_newString (n := c - a) (l := (l.drop a).take (c - a)) (by omega) hKb (by rw [hN]; omega) (by rw [hN]; omega) (fun j g1 g2 => (hS2.at g1 (by rw [hN] at g2; exact g2)).2) (by simp; omega) hlb) fJ11_newString q574 (by decide) (Nat.le_of_ble_eq_true rfl) (by omega) (by omega) dJ7_substring_41 (fun v h2 n2 hp => ?_)
    obtain ⟨s2, b2, K2, N2, I2, R2, rfl, rfl, hp⟩ := hp
    refine x_goto (t := 57) dJ7_substring_44 (by decide) ?_
    refine gp_aret rfl (Or.inl ⟨_, rfl⟩) dJ7_substring_57 (by omega) (by omega) ?_
    exact ⟨s2, b2, K2, N2, I2, R2, rfl, rfl, hp⟩
  · skip
    refine x_iload_n dJ7_substring_15 rfl ?_
    refine x_iload_n dJ7_substring_16 rfl ?_
    refine x_icmp_ne (t := 22) dJ7_substring_17 (by decide) (by omega) (fun c_17 => ?_) (fun c_17 => ?_)
    · skip
      refine x_iload_n dJ7_substring_22 rfl ?_
      refine x_iload_n dJ7_substring_23 rfl ?_
      refine x_isub dJ7_substring_24 ?_
      refine x_istore dJ7_substring_25 (by decide) ?_
      refine x_aload_n dJ7_substring_27 rfl ?_
      refine g_cv0 (ci := 14) (jc_isLatin1 hK h1) fJ7_isLatin1 q570 rfl (by decide) (by first | assumption | grind) (by decide) (Nat.le_of_ble_eq_true rfl) (by omega) (by omega) dJ7_substring_28 (fun v h2 n2 hp => ?_)
      obtain ⟨rfl, rfl, rfl⟩ := hp
      refine x_if_eq (t := 47) dJ7_substring_31 (by decide) (by omega) (fun c_31 => absurd c_31 (by decide)) (fun c_31 => ?_)
      refine x_aload_n dJ7_substring_34 rfl ?_
      refine g_getR 0 (r := some b) (ci := 14) (kf := 0) rfl (by decide) (by decide) rfl rfl q536 rfl (by first | assumption | grind) (hR) dJ7_substring_35 ?_
      refine x_iload_n dJ7_substring_38 rfl ?_
      refine x_iload dJ7_substring_39 rfl ?_
      refine x_top ((c - a : Nat) : Int) (by omega) ?_
      have hlb : ∀ i : Nat, i < c - a → ((l.drop a).take (c - a)).getD i 0 = I b ((a : Int) + i) := by
        intro i hi
        rw [show ((a : Int) + i) = ((a + i : Nat) : Int) by omega, hb (a + i) (by omega), List.getD_eq_getElem?_getD, List.getD_eq_getElem?_getD, List.getElem?_take, if_pos hi, List.getElem?_drop]
      refine g_cs3 (jc_newString (n := c - a) (l := (l.drop a).take (c - a)) (by omega) hKb (by rw [hN]; omega) (by rw [hN]; omega) (fun j g1 g2 => (hS2.at g1 (by rw [hN] at g2; exact g2)).2) (by simp; omega) hlb) fJ11_newString q574 (by decide) (Nat.le_of_ble_eq_true rfl) (by omega) (by omega) dJ7_substring_41 (fun v h2 n2 hp => ?_)
      obtain ⟨s2, b2, K2, N2, I2, R2, rfl, rfl, hp⟩ := hp
      refine x_goto (t := 57) dJ7_substring_44 (by decide) ?_
      refine gp_aret rfl (Or.inl ⟨_, rfl⟩) dJ7_substring_57 (by omega) (by omega) ?_
      exact ⟨s2, b2, K2, N2, I2, R2, rfl, rfl, hp⟩
    · skip
      refine x_aload_n dJ7_substring_20 rfl ?_
      refine gp_aret rfl (Or.inl ⟨_, rfl⟩) dJ7_substring_21 (by omega) (by omega) ?_
      have e1 : a = 0 := by omega
      have e2 : c = l.length := by omega
      subst e1
      subst e2
      simp only [List.drop_zero, Nat.sub_zero, List.take_length]
      exact ⟨s, b, K, N, I, R, rfl, rfl, hS2, Fr.rf, Nat.le_refl _, hs⟩
end STR
