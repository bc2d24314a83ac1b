/-! STRINGS 3: compareTo, and words as numbers in their order -/
set_option maxRecDepth 100000
def jcmp : List Int → List Int → Int
  | [], [] => 0
  | [], b :: y => -((y.length : Int) + 1)
  | a :: x, [] => (x.length : Int) + 1
  | a :: x, b :: y => if a = b then jcmp x y else a - b
theorem jcmp_pre : ∀ (x y : List Int), (∀ i : Nat, i < x.length → i < y.length → x.getD i 0 = y.getD i 0) → jcmp x y = (x.length : Int) - y.length
  | [], [], _ => rfl
  | [], b :: y, _ => by simp [jcmp]
  | a :: x, [], _ => by simp [jcmp]
  | a :: x, b :: y, h => by
    have h0 := h 0 (by simp) (by simp)
    simp at h0
    have ih := jcmp_pre x y (fun i h1 h2 => by
      have := h (i + 1) (by simp; omega) (by simp; omega)
      simpa using this)
    simp only [jcmp, h0, if_true, ih, List.length_cons]
    omega
theorem jcmp_at : ∀ (x y : List Int) (k : Nat), k < x.length → k < y.length → (∀ i : Nat, i < k → x.getD i 0 = y.getD i 0) → x.getD k 0 ≠ y.getD k 0 → jcmp x y = x.getD k 0 - y.getD k 0
  | [], _, k, h1, _, _, _ => by simp at h1
  | a :: x, [], k, _, h2, _, _ => by simp at h2
  | a :: x, b :: y, 0, h1, h2, h3, h4 => by
    simp at h4
    simp [jcmp, h4]
  | a :: x, b :: y, k + 1, h1, h2, h3, h4 => by
    have h0 := h3 0 (by omega)
    simp at h0
    have ih := jcmp_at x y k (by simpa using h1) (by simpa using h2) (fun i hi => by
      have := h3 (i + 1) (by omega)
      simpa using this) (by simpa using h4)
    simp only [jcmp, h0, if_true, ih]
    simp
/-- a word as a number: its order -/
def codN : Nat → List Int → Int
  | 0, _ => 0
  | _ + 1, [] => 0
  | n + 1, c :: t => (c - 96) * 32 ^ n + codN n t
def cod (w : List Int) : Int := codN 10 w
theorem codN_in : ∀ (n : Nat) (w : List Int), (∀ c ∈ w, 97 ≤ c ∧ c < 117) → 0 ≤ codN n w ∧ codN n w < 32 ^ n
  | 0, w, _ => by simp [codN]
  | n + 1, [], _ => by
    simp only [codN]
    have : (0 : Int) < 32 ^ (n + 1) := Int.pow_pos (by decide)
    omega
  | n + 1, c :: t, h => by
    have hc := h c (by simp)
    have ih := codN_in n t (fun d hd => h d (by simp [hd]))
    have hp : (0 : Int) < 32 ^ n := Int.pow_pos (by decide)
    simp only [codN]
    rw [Int.pow_succ]
    have h1 : (c - 96) * 32 ^ n ≤ 30 * 32 ^ n := Int.mul_le_mul_of_nonneg_right (by omega) (by omega)
    have h2 : 0 ≤ (c - 96) * 32 ^ n := Int.mul_nonneg (by omega) (by omega)
    omega
theorem codN_cmp : ∀ (n : Nat) (x y : List Int), x.length ≤ n → y.length ≤ n → (∀ c ∈ x, 97 ≤ c ∧ c < 117) → (∀ c ∈ y, 97 ≤ c ∧ c < 117) → (jcmp x y < 0 ↔ codN n x < codN n y) ∧ (jcmp x y = 0 ↔ codN n x = codN n y) ∧ (codN n x = codN n y → x = y)
  | 0, x, y, h1, h2, _, _ => by
    have e1 : x = [] := List.length_eq_zero_iff.mp (by omega)
    have e2 : y = [] := List.length_eq_zero_iff.mp (by omega)
    subst e1; subst e2
    simp [jcmp, codN]
  | n + 1, [], [], _, _, _, _ => by simp [jcmp, codN]
  | n + 1, [], b :: y, _, _, _, hy => by
    have hb := hy b (by simp)
    have ih := codN_in n y (fun d hd => hy d (by simp [hd]))
    have hp : (0 : Int) < 32 ^ n := Int.pow_pos (by decide)
    have h2 : 1 * 32 ^ n ≤ (b - 96) * 32 ^ n := Int.mul_le_mul_of_nonneg_right (by omega) (by omega)
    simp only [jcmp, codN]
    refine ⟨⟨fun _ => by omega, fun _ => by omega⟩, ⟨fun q => by omega, fun q => by omega⟩, fun q => by omega⟩
  | n + 1, a :: x, [], _, _, hx, _ => by
    have ha := hx a (by simp)
    have ih := codN_in n x (fun d hd => hx d (by simp [hd]))
    have hp : (0 : Int) < 32 ^ n := Int.pow_pos (by decide)
    have h2 : 1 * 32 ^ n ≤ (a - 96) * 32 ^ n := Int.mul_le_mul_of_nonneg_right (by omega) (by omega)
    simp only [jcmp, codN]
    refine ⟨⟨fun q => by omega, fun q => by omega⟩, ⟨fun q => by omega, fun q => by omega⟩, fun q => by omega⟩
  | n + 1, a :: x, b :: y, h1, h2, hx, hy => by
    have ha := hx a (by simp)
    have hb := hy b (by simp)
    have i1 := codN_in n x (fun d hd => hx d (by simp [hd]))
    have i2 := codN_in n y (fun d hd => hy d (by simp [hd]))
    have ih := codN_cmp n x y (by simpa using h1) (by simpa using h2) (fun d hd => hx d (by simp [hd])) (fun d hd => hy d (by simp [hd]))
    have hp : (0 : Int) < 32 ^ n := Int.pow_pos (by decide)
    simp only [jcmp, codN]
    by_cases hab : a = b
    · subst hab
      simp only [if_true]
      refine ⟨⟨fun q => by have := ih.1.mp q; omega, fun q => ih.1.mpr (by omega)⟩, ⟨fun q => by have := ih.2.1.mp q; omega, fun q => ih.2.1.mpr (by omega)⟩, fun q => by rw [ih.2.2 (by omega)]⟩
    · rw [if_neg hab]
      rcases Int.lt_or_gt_of_ne hab with hlt | hgt
      · have h3 : (a - 96 + 1) * 32 ^ n ≤ (b - 96) * 32 ^ n := Int.mul_le_mul_of_nonneg_right (by omega) (by omega)
        rw [Int.add_mul, Int.one_mul] at h3
        refine ⟨⟨fun q => by omega, fun q => by omega⟩, ⟨fun q => by omega, fun q => by omega⟩, fun q => by omega⟩
      · have h3 : (b - 96 + 1) * 32 ^ n ≤ (a - 96) * 32 ^ n := Int.mul_le_mul_of_nonneg_right (by omega) (by omega)
        rw [Int.add_mul, Int.one_mul] at h3
        refine ⟨⟨fun q => by omega, fun q => by omega⟩, ⟨fun q => by omega, fun q => by omega⟩, fun q => by omega⟩
section STR
variable {G : rr_G} {nx : Nat} {K N : Nat → Nat} {I : Nat → Int → Int} {R : Nat → Int → Option Nat} {s b s2 b2 : Nat} {l l2 : List Int}
/-- where two arrays are unlike first -/
def Mism (l l2 : List Int) (n : Nat) (z : Int) : Prop := (z = -1 ∧ ∀ i : Nat, i < n → l.getD i 0 = l2.getD i 0) ∨ ∃ k : Nat, k < n ∧ z = k ∧ (∀ i : Nat, i < k → l.getD i 0 = l2.getD i 0) ∧ l.getD k 0 ≠ l2.getD k 0
def MisP (h : rr_H) (nx : Nat) (l l2 : List Int) (n : Nat) : rr_V → rr_H → Nat → Prop := fun v h2 n2 => ∃ z, v = vI z ∧ Mism l l2 n z ∧ h2 = h ∧ nx = n2
theorem jc_mismatch {n : Nat} (hS : Str K N I R s b l) (hS2 : Str K N I R s2 b2 l2) (hn : n ≤ 7 ∧ n ≤ l.length ∧ n ≤ l2.length) : gP G yJ9_mismatch cJ9_mismatch 4 ((some FieldType.int)) 0 0 0 [vR (some b), vR (some b2), vI (n : Int)] (K, N, I, R) nx (MisP (K, N, I, R) nx l l2 n) := by
  have hA : ∀ {j : Int}, 0 ≤ j → j < l.length → I b j = l.getD j.toNat 0 ∧ 0 ≤ I b j ∧ I b j < 128 := fun h0 h1 => hS.at h0 h1
  have hB : ∀ {j : Int}, 0 ≤ j → j < l2.length → I b2 j = l2.getD j.toNat 0 ∧ 0 ≤ I b2 j ∧ I b2 j < 128 := fun h0 h1 => hS2.at h0 h1
  obtain ⟨-, ⟨hKb, hN⟩, -⟩ := hS
  obtain ⟨-, ⟨hKb2, hN2⟩, -⟩ := hS2
  refine gP.of (by decide) rfl (Nat.le_of_ble_eq_true rfl) ?_
  refine x_ls (ls2 := [some (vR (some b)), some (vR (some b2)), some (vI (n : Int)), none]) rfl ?_
  refine x_iconst dJ9_mismatch_0 ?_
  refine x_istore_n dJ9_mismatch_1 (by decide) ?_
  refine x_iload_n dJ9_mismatch_2 rfl ?_
  refine x_bipush dJ9_mismatch_3 (by decide) ?_
  refine x_icmp_le (t := 49) dJ9_mismatch_5 (by decide) (by omega) (fun c_5 => ?_) (fun c_5 => absurd (by omega) c_5)
  refine x_ls (ls2 := [some (vR (some b)), some (vR (some b2)), some (vI (n : Int)), some (vI ((0 : Nat) : Int))]) rfl ?_
  refine rr_ind (W := fun k : Nat => gp G yJ9_mismatch cJ9_mismatch 4 ((some FieldType.int)) 0 0 0 (MisP (K, N, I, R) nx l l2 n) 49 [some (vR (some b)), some (vR (some b2)), some (vI (n : Int)), some (vI (k : Int))] [] (K, N, I, R) nx 0 0) (fun k => n - k) (fun k => k ≤ n ∧ ∀ i : Nat, i < k → l.getD i 0 = l2.getD i 0) ?_ 0 ⟨by omega, fun i hi => by omega⟩
  rintro k ⟨hk, heq⟩ ih
  refine x_iload_n dJ9_mismatch_49 rfl ?_
  refine x_iload_n dJ9_mismatch_50 rfl ?_
  refine x_icmp_ge (t := 71) dJ9_mismatch_51 (by decide) (by omega) (fun c_51 => ?_) (fun c_51 => ?_)
  · skip
    refine x_iconst dJ9_mismatch_71 ?_
    refine gp_iret rfl dJ9_mismatch_72 (by omega) (by omega) ?_
    exact ⟨_, rfl, Or.inl ⟨rfl, fun i hi => heq i (by omega)⟩, rfl, rfl⟩
  · skip
    have e1 := hA (j := (k : Int)) (by omega) (by omega)
    have e2 := hB (j := (k : Int)) (by omega) (by omega)
    refine x_aload_n dJ9_mismatch_54 rfl ?_
    refine x_iload_n dJ9_mismatch_55 rfl ?_
    refine g_bald (by first | assumption | grind) rfl (by rw [hN]; omega) dJ9_mismatch_56 ?_
    refine x_aload_n dJ9_mismatch_57 rfl ?_
    refine x_iload_n dJ9_mismatch_58 rfl ?_
    refine g_bald (by first | assumption | grind) rfl (by rw [hN2]; omega) dJ9_mismatch_59 ?_
    refine x_icmp_eq (t := 65) dJ9_mismatch_60 (by decide) (by omega) (fun c_60 => ?_) (fun c_60 => ?_)
    · skip
      refine x_iinc dJ9_mismatch_65 rfl (by decide) ?_
      refine x_goto (t := 49) dJ9_mismatch_68 (by decide) ?_
      refine x_ls (ls2 := [some (vR (some b)), some (vR (some b2)), some (vI (n : Int)), some (vI ((k + 1 : Nat) : Int))]) (by simp) ?_
      refine ih (k + 1) ⟨by omega, fun i hi => ?_⟩ (by omega)
      by_cases hik : i = k
      · rw [hik]; simpa [e1.1, e2.1] using c_60
      · exact heq i (by omega)
    · skip
      refine x_iload_n dJ9_mismatch_63 rfl ?_
      refine gp_iret rfl dJ9_mismatch_64 (by omega) (by omega) ?_
      exact ⟨_, rfl, Or.inr ⟨k, by omega, rfl, heq, by simpa [e1.1, e2.1] using c_60⟩, rfl, rfl⟩
theorem jc_compareL2 (hS : Str K N I R s b l) (hS2 : Str K N I R s2 b2 l2) (hn : l.length ≤ 7 ∨ l2.length ≤ 7) : gP G yJ11_compareTo_2 cJ11_compareTo_2 6 ((some FieldType.int)) 1 0 0 [vR (some b), vR (some b2), vI (l.length : Int), vI (l2.length : Int)] (K, N, I, R) nx (gEq (vI (jcmp l l2)) (K, N, I, R) nx) := by
  have hl := hS.2.2.2.2
  have hl2 := hS2.2.2.2.2
  refine gP.of (by decide) rfl (Nat.le_of_ble_eq_true rfl) ?_
  refine x_ls (ls2 := [some (vR (some b)), some (vR (some b2)), some (vI (l.length : Int)), some (vI (l2.length : Int)), none, none]) rfl ?_
  refine x_iload_n dJ11_compareTo_2_0 rfl ?_
  refine x_iload_n dJ11_compareTo_2_1 rfl ?_
  refine x_mmin (by omega) q669 (by decide) (Nat.le_of_ble_eq_true rfl) dJ11_compareTo_2_2 ?_ (by omega) (by omega)
  refine x_istore dJ11_compareTo_2_5 (by decide) ?_
  refine x_aload_n dJ11_compareTo_2_7 rfl ?_
  refine x_aload_n dJ11_compareTo_2_8 rfl ?_
  refine x_iload dJ11_compareTo_2_9 rfl ?_
  refine x_top ((min l.length l2.length : Nat) : Int) (by omega) ?_
  refine g_cs3 (jc_mismatch (n := min l.length l2.length) hS hS2 (by omega)) fJ9_mismatch q670 (by decide) (Nat.le_of_ble_eq_true rfl) (by omega) (by omega) dJ11_compareTo_2_11 (fun v h2 n2 hp => ?_)
  obtain ⟨z, rfl, hz, rfl, rfl⟩ := hp
  have hzb : -1 ≤ z ∧ z < 1000 := by
    rcases hz with ⟨h1, -⟩ | ⟨k, h1, h2, -⟩ <;> omega
  refine x_istore dJ11_compareTo_2_14 (by decide) ?_
  refine x_iload dJ11_compareTo_2_16 rfl ?_
  refine x_if_ge (t := 27) dJ11_compareTo_2_18 (by decide) (by omega) (fun c_18 => ?_) (fun c_18 => ?_)
  · skip
    rcases hz with ⟨h1, -⟩ | ⟨k, hk, rfl, heq, hne⟩
    · omega
    have hj := jcmp_at l l2 k (by omega) (by omega) heq hne
    have e1 := hS.at (j := (k : Int)) (by omega) (by omega)
    have e2 := hS2.at (j := (k : Int)) (by omega) (by omega)
    refine x_aload_n dJ11_compareTo_2_27 rfl ?_
    refine x_iload dJ11_compareTo_2_28 rfl ?_
    refine g_cs2 (jc_getChar hS.2.1.1 (by rw [hS.2.1.2]; omega) (by rw [hS.2.1.2]; omega) e1.2) fJ11_getChar q774 (by decide) (Nat.le_of_ble_eq_true rfl) (by omega) (by omega) dJ11_compareTo_2_30 (fun v h2 n2 hp => ?_)
    obtain ⟨rfl, rfl, rfl⟩ := hp
    refine x_aload_n dJ11_compareTo_2_33 rfl ?_
    refine x_iload dJ11_compareTo_2_34 rfl ?_
    refine g_cs2 (jc_getChar hS2.2.1.1 (by rw [hS2.2.1.2]; omega) (by rw [hS2.2.1.2]; omega) e2.2) fJ11_getChar q774 (by decide) (Nat.le_of_ble_eq_true rfl) (by omega) (by omega) dJ11_compareTo_2_36 (fun v h2 n2 hp => ?_)
    obtain ⟨rfl, rfl, rfl⟩ := hp
    refine x_isub dJ11_compareTo_2_39 ?_
    refine gp_iret rfl dJ11_compareTo_2_40 (by omega) (by omega) ?_
    refine ⟨?_, rfl, rfl⟩
    first | rw [hj] | rw [hj, e1.1, e2.1]
    try first | rfl | (rw [e1.1, e2.1]; rfl)
  · skip
    have hz1 : z = -1 := by omega
    rcases hz with ⟨-, heq⟩ | ⟨k, -, h2, -⟩
    rotate_left
    · omega
    have hj := jcmp_pre l l2 (fun i g1 g2 => heq i (by omega))
    refine x_iload_n dJ11_compareTo_2_21 rfl ?_
    refine x_iload_n dJ11_compareTo_2_22 rfl ?_
    refine x_isub dJ11_compareTo_2_23 ?_
    refine x_goto (t := 40) dJ11_compareTo_2_24 (by decide) ?_
    refine gp_iret rfl dJ11_compareTo_2_40 (by omega) (by omega) ?_
    refine ⟨?_, rfl, rfl⟩
    first | rw [hj] | rw [hj, e1.1, e2.1]
    try first | rfl | (rw [e1.1, e2.1]; rfl)
theorem jc_compareL (hS : Str K N I R s b l) (hS2 : Str K N I R s2 b2 l2) (hn : l.length ≤ 7 ∨ l2.length ≤ 7) : gP G yJ11_compareTo cJ11_compareTo 4 ((some FieldType.int)) 2 0 0 [vR (some b), vR (some b2)] (K, N, I, R) nx (gEq (vI (jcmp l l2)) (K, N, I, R) nx) := by
  have hl := hS.2.2.2.2
  refine gP.of (by decide) rfl (Nat.le_of_ble_eq_true rfl) ?_
  refine x_ls (ls2 := [some (vR (some b)), some (vR (some b2)), none, none]) rfl ?_
  refine x_aload_n dJ11_compareTo_0 rfl ?_
  refine g_alen (t := 1) rfl (hS.2.1.1) (hS.2.1.2) dJ11_compareTo_1 ?_
  refine x_istore_n dJ11_compareTo_2 (by decide) ?_
  refine x_aload_n dJ11_compareTo_3 rfl ?_
  refine g_alen (t := 1) rfl (hS2.2.1.1) (hS2.2.1.2) dJ11_compareTo_4 ?_
  refine x_istore_n dJ11_compareTo_5 (by decide) ?_
  refine x_aload_n dJ11_compareTo_6 rfl ?_
  refine x_aload_n dJ11_compareTo_7 rfl ?_
  refine x_iload_n dJ11_compareTo_8 rfl ?_
  refine x_iload_n dJ11_compareTo_9 rfl ?_
  refine g_cs4 (jc_compareL2 hS hS2 hn) fJ11_compareTo_2 q666 (by decide) (Nat.le_of_ble_eq_true rfl) (by omega) (by omega) dJ11_compareTo_10 (fun v h2 n2 hp => ?_)
  obtain ⟨rfl, rfl, rfl⟩ := hp
  refine gp_iret rfl dJ11_compareTo_13 (by omega) (by omega) ?_
  exact ⟨rfl, rfl, rfl⟩
theorem jc_compareS (hS : Str K N I R s b l) (hS2 : Str K N I R s2 b2 l2) (hn : l.length ≤ 7 ∨ l2.length ≤ 7) : gP G yJ7_compareTo_2 cJ7_compareTo_2 5 ((some FieldType.int)) 3 0 0 [vR (some s), vR (some s2)] (K, N, I, R) nx (gEq (vI (jcmp l l2)) (K, N, I, R) nx) := by
  have hK := hS.1.1
  have hK2 := hS2.1.1
  refine gP.of (by decide) rfl (Nat.le_of_ble_eq_true rfl) ?_
  refine x_ls (ls2 := [some (vR (some s)), some (vR (some s2)), none, none, none]) rfl ?_
  refine x_aload_n dJ7_compareTo_2_0 rfl ?_
  refine g_getR 0 (r := some b) (ci := 14) (kf := 0) rfl (by decide) (by decide) rfl rfl q536 rfl (by first | assumption | grind) (hS.1.2.1) dJ7_compareTo_2_1 ?_
  refine x_astore_n dJ7_compareTo_2_4 (by decide) ?_
  refine x_aload_n dJ7_compareTo_2_5 rfl ?_
  refine g_getR 0 (r := some b2) (ci := 14) (kf := 0) rfl (by decide) (by decide) rfl rfl q536 rfl (by first | assumption | grind) (hS2.1.2.1) dJ7_compareTo_2_6 ?_
  refine x_astore_n dJ7_compareTo_2_9 (by decide) ?_
  refine x_aload_n dJ7_compareTo_2_10 rfl ?_
  refine g_cv0 (ci := 14) (jc_coder hK hS.1.2.2) fJ7_coder q555 rfl (by decide) (by first | assumption | grind) (by decide) (Nat.le_of_ble_eq_true rfl) (by omega) (by omega) dJ7_compareTo_2_11 (fun v h2 n2 hp => ?_)
  obtain ⟨rfl, rfl, rfl⟩ := hp
  refine x_istore dJ7_compareTo_2_14 (by decide) ?_
  refine x_iload dJ7_compareTo_2_16 rfl ?_
  refine x_aload_n dJ7_compareTo_2_18 rfl ?_
  refine g_cv0 (ci := 14) (jc_coder hK2 hS2.1.2.2) fJ7_coder q555 rfl (by decide) (by first | assumption | grind) (by decide) (Nat.le_of_ble_eq_true rfl) (by omega) (by omega) dJ7_compareTo_2_19 (fun v h2 n2 hp => ?_)
  obtain ⟨rfl, rfl, rfl⟩ := hp
  refine x_icmp_ne (t := 44) dJ7_compareTo_2_22 (by decide) (by omega) (fun c_22 => absurd (rfl) c_22) (fun c_22 => ?_)
  refine x_iload dJ7_compareTo_2_25 rfl ?_
  refine x_if_ne (t := 38) dJ7_compareTo_2_27 (by decide) (by omega) (fun c_27 => absurd (rfl) c_27) (fun c_27 => ?_)
  refine x_aload_n dJ7_compareTo_2_30 rfl ?_
  refine x_aload_n dJ7_compareTo_2_31 rfl ?_
  refine g_cs2 (jc_compareL hS hS2 hn) fJ11_compareTo q663 (by decide) (Nat.le_of_ble_eq_true rfl) (by omega) (by omega) dJ7_compareTo_2_32 (fun v h2 n2 hp => ?_)
  obtain ⟨rfl, rfl, rfl⟩ := hp
  refine x_goto (t := 43) dJ7_compareTo_2_35 (by decide) ?_
  refine gp_iret rfl dJ7_compareTo_2_43 (by omega) (by omega) ?_
  exact ⟨rfl, rfl, rfl⟩
theorem jc_compareTo (hS : Str K N I R s b l) (hS2 : Str K N I R s2 b2 l2) (hn : l.length ≤ 7 ∨ l2.length ≤ 7) : gP G yJ7_compareTo cJ7_compareTo 2 ((some FieldType.int)) 4 0 0 [vR (some s), vR (some s2)] (K, N, I, R) nx (gEq (vI (jcmp l l2)) (K, N, I, R) nx) := by
  have hK := hS.1.1
  have hK2 := hS2.1.1
  refine gP.of (by decide) rfl (Nat.le_of_ble_eq_true rfl) ?_
  refine x_ls (ls2 := [some (vR (some s)), some (vR (some s2))]) rfl ?_
  refine x_aload_n dJ7_compareTo_0 rfl ?_
  refine x_aload_n dJ7_compareTo_1 rfl ?_
  refine g_cast (ci := 14) rfl (by decide) q658 (Or.inl rfl) (by first | assumption | grind) dJ7_compareTo_2 ?_
  refine g_cv1 (ci := 14) (jc_compareS hS hS2 hn) fJ7_compareTo_2 q659 rfl (by decide) (by first | assumption | grind) (by decide) (Nat.le_of_ble_eq_true rfl) (by omega) (by omega) dJ7_compareTo_5 (fun v h2 n2 hp => ?_)
  obtain ⟨rfl, rfl, rfl⟩ := hp
  refine gp_iret rfl dJ7_compareTo_8 (by omega) (by omega) ?_
  exact ⟨rfl, rfl, rfl⟩
theorem jc_icompare {a c : Int} {h : rr_H} (ha : -2147483648 ≤ a ∧ a < 2147483648) (hc : -2147483648 ≤ c ∧ c < 2147483648) : gP G yJ4_compare cJ4_compare 2 ((some FieldType.int)) 0 0 0 [vI a, vI c] h nx (gEq (vI (if a < c then -1 else if a = c then 0 else 1)) h nx) := by
  refine gP.of (by decide) rfl (Nat.le_of_ble_eq_true rfl) ?_
  refine x_ls (ls2 := [some (vI a), some (vI c)]) rfl ?_
  refine x_iload_n dJ4_compare_0 rfl ?_
  refine x_iload_n dJ4_compare_1 rfl ?_
  refine x_icmp_ge (t := 9) dJ4_compare_2 (by decide) (by omega) (fun c_2 => ?_) (fun c_2 => ?_)
  · skip
    refine x_iload_n dJ4_compare_9 rfl ?_
    refine x_iload_n dJ4_compare_10 rfl ?_
    refine x_icmp_ne (t := 18) dJ4_compare_11 (by decide) (by omega) (fun c_11 => ?_) (fun c_11 => ?_)
    · skip
      refine x_iconst dJ4_compare_18 ?_
      refine gp_iret rfl dJ4_compare_19 (by omega) (by omega) ?_
      refine ⟨?_, rfl, rfl⟩
      simp only [vI]
      congr 1
      split <;> (try split) <;> omega
    · skip
      refine x_iconst dJ4_compare_14 ?_
      refine x_goto (t := 19) dJ4_compare_15 (by decide) ?_
      refine gp_iret rfl dJ4_compare_19 (by omega) (by omega) ?_
      refine ⟨?_, rfl, rfl⟩
      simp only [vI]
      congr 1
      split <;> (try split) <;> omega
  · skip
    refine x_iconst dJ4_compare_5 ?_
    refine x_goto (t := 19) dJ4_compare_6 (by decide) ?_
    refine gp_iret rfl dJ4_compare_19 (by omega) (by omega) ?_
    refine ⟨?_, rfl, rfl⟩
    simp only [vI]
    congr 1
    split <;> (try split) <;> omega
theorem jc_icompare2 (hK : K s = 22) (hK2 : K s2 = 22) (ha : -2147483648 ≤ I s 0 ∧ I s 0 < 2147483648) (hc : -2147483648 ≤ I s2 0 ∧ I s2 0 < 2147483648) : gP G yJ4_compareTo_2 cJ4_compareTo_2 2 ((some FieldType.int)) 1 0 0 [vR (some s), vR (some s2)] (K, N, I, R) nx (gEq (vI (if I s 0 < I s2 0 then -1 else if I s 0 = I s2 0 then 0 else 1)) (K, N, I, R) nx) := by
  refine gP.of (by decide) rfl (Nat.le_of_ble_eq_true rfl) ?_
  refine x_ls (ls2 := [some (vR (some s)), some (vR (some s2))]) rfl ?_
  refine x_aload_n dJ4_compareTo_2_0 rfl ?_
  refine g_getI 0 (ci := 22) (kf := 0) rfl (by decide) (by decide) rfl rfl q978 rfl (by first | assumption | grind) dJ4_compareTo_2_1 ?_
  refine x_aload_n dJ4_compareTo_2_4 rfl ?_
  refine g_getI 0 (ci := 22) (kf := 0) rfl (by decide) (by decide) rfl rfl q978 rfl (by first | assumption | grind) dJ4_compareTo_2_5 ?_
  refine g_cs2 (jc_icompare ha hc) fJ4_compare q649 (by decide) (Nat.le_of_ble_eq_true rfl) (by omega) (by omega) dJ4_compareTo_2_8 (fun v h2 n2 hp => ?_)
  obtain ⟨rfl, rfl, rfl⟩ := hp
  refine gp_iret rfl dJ4_compareTo_2_11 (by omega) (by omega) ?_
  exact ⟨rfl, rfl, rfl⟩
theorem jc_icompareTo (hK : K s = 22) (hK2 : K s2 = 22) (ha : -2147483648 ≤ I s 0 ∧ I s 0 < 2147483648) (hc : -2147483648 ≤ I s2 0 ∧ I s2 0 < 2147483648) : gP G yJ4_compareTo cJ4_compareTo 2 ((some FieldType.int)) 2 0 0 [vR (some s), vR (some s2)] (K, N, I, R) nx (gEq (vI (if I s 0 < I s2 0 then -1 else if I s 0 = I s2 0 then 0 else 1)) (K, N, I, R) nx) := by
  refine gP.of (by decide) rfl (Nat.le_of_ble_eq_true rfl) ?_
  refine x_ls (ls2 := [some (vR (some s)), some (vR (some s2))]) rfl ?_
  refine x_aload_n dJ4_compareTo_0 rfl ?_
  refine x_aload_n dJ4_compareTo_1 rfl ?_
  refine g_cast (ci := 22) rfl (by decide) q644 (Or.inl rfl) (by first | assumption | grind) dJ4_compareTo_2 ?_
  refine g_cv1 (ci := 22) (jc_icompare2 hK hK2 ha hc) fJ4_compareTo_2 q645 rfl (by decide) (by first | assumption | grind) (by decide) (Nat.le_of_ble_eq_true rfl) (by omega) (by omega) dJ4_compareTo_5 (fun v h2 n2 hp => ?_)
  obtain ⟨rfl, rfl, rfl⟩ := hp
  refine gp_iret rfl dJ4_compareTo_8 (by omega) (by omega) ?_
  exact ⟨rfl, rfl, rfl⟩
end STR
