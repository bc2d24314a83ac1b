/-! QUEUES: heaps by places (pure) -/
set_option maxRecDepth 100000
section HEAP
variable {pr : Nat → Int} {v : Nat → Nat} {n k : Nat}
def Ho (pr : Nat → Int) (v : Nat → Nat) (n : Nat) : Prop := ∀ i, 0 < i → i < n → pr (v ((i - 1) / 2)) ≤ pr (v i)
def Hu (pr : Nat → Int) (v : Nat → Nat) (n k : Nat) : Prop := (∀ i, 0 < i → i < n → i ≠ k → pr (v ((i - 1) / 2)) ≤ pr (v i)) ∧ (∀ i, 0 < i → i < n → (i - 1) / 2 = k → 0 < k → pr (v ((k - 1) / 2)) ≤ pr (v i))
def Hd (pr : Nat → Int) (v : Nat → Nat) (n k : Nat) : Prop := (∀ i, 0 < i → i < n → (i - 1) / 2 ≠ k → pr (v ((i - 1) / 2)) ≤ pr (v i)) ∧ (∀ i, 0 < i → i < n → (i - 1) / 2 = k → 0 < k → pr (v ((k - 1) / 2)) ≤ pr (v i))
def swp2 (v : Nat → Nat) (a b : Nat) : Nat → Nat := fun i => if i = a then v b else if i = b then v a else v i
def Mm (v : Nat → Nat) (n x : Nat) : Prop := ∃ i, i < n ∧ v i = x
def Ij (v : Nat → Nat) (n : Nat) : Prop := ∀ i j, i < n → j < n → v i = v j → i = j
theorem Mm.swp {a b x : Nat} (ha : a < n) (hb : b < n) : Mm (swp2 v a b) n x ↔ Mm v n x := by
  unfold Mm swp2
  constructor
  · rintro ⟨i, hi, h⟩
    by_cases h1 : i = a
    · rw [if_pos h1] at h; exact ⟨b, hb, h⟩
    · rw [if_neg h1] at h
      by_cases h2 : i = b
      · rw [if_pos h2] at h; exact ⟨a, ha, h⟩
      · rw [if_neg h2] at h; exact ⟨i, hi, h⟩
  · rintro ⟨i, hi, h⟩
    by_cases h1 : i = a
    · refine ⟨b, hb, ?_⟩
      by_cases h2 : b = a
      · rw [if_pos h2, h2, ← h1]; exact h
      · rw [if_neg h2, if_pos rfl, ← h1]; exact h
    · by_cases h2 : i = b
      · refine ⟨a, ha, ?_⟩
        rw [if_pos rfl, ← h2]; exact h
      · exact ⟨i, hi, by rw [if_neg h1, if_neg h2]; exact h⟩
theorem Ij.swp {a b : Nat} (h : Ij v n) (ha : a < n) (hb : b < n) : Ij (swp2 v a b) n := by
  intro i j hi hj e
  unfold swp2 at e
  have h1 := h i j hi hj
  have h2 := h a j ha hj
  have h3 := h b j hb hj
  have h4 := h i a hi ha
  have h5 := h i b hi hb
  have h6 := h a b ha hb
  have h7 := h b a hb ha
  grind
theorem Hu.done (h : Hu pr v n k) (hd : k = 0 ∨ pr (v ((k - 1) / 2)) ≤ pr (v k)) : Ho pr v n := by
  intro i h0 hi
  by_cases hk : i = k
  · rcases hd with q | q
    · omega
    · rw [hk]; exact q
  · exact h.1 i h0 hi hk
theorem Hu.up (h : Hu pr v n k) (hk : 0 < k) (hn : k < n) (hlt : pr (v k) < pr (v ((k - 1) / 2))) : Hu pr (swp2 v k ((k - 1) / 2)) n ((k - 1) / 2) := by
  obtain ⟨h1, h2⟩ := h
  have hp : (k - 1) / 2 < k := by omega
  refine ⟨fun i h0 hi hne => ?_, fun i h0 hi he hp0 => ?_⟩
  · unfold swp2
    by_cases hik : i = k
    · subst hik
      rw [if_neg (by omega), if_pos rfl, if_pos rfl]
      omega
    · rw [if_neg hik, if_neg hne]
      by_cases hpk : (i - 1) / 2 = k
      · rw [if_pos hpk]
        exact h2 i h0 hi hpk hk
      · rw [if_neg hpk]
        have h3 := h1 i h0 hi hik
        by_cases hpp : (i - 1) / 2 = (k - 1) / 2
        · rw [if_pos hpp]
          rw [hpp] at h3
          omega
        · rw [if_neg hpp]; exact h3
  · unfold swp2
    have h3 := h1 ((k - 1) / 2) hp0 (by omega) (by omega)
    rw [if_neg (show ¬ ((k - 1) / 2 - 1) / 2 = k by omega), if_neg (show ¬ ((k - 1) / 2 - 1) / 2 = (k - 1) / 2 by omega)]
    by_cases hik : i = k
    · rw [if_pos hik]; exact h3
    · rw [if_neg hik, if_neg (by omega)]
      have h4 := h1 i h0 hi hik
      rw [he] at h4
      omega
theorem Ho.add {x : Nat} (h : Ho pr v n) : Hu pr (fun i => if i = n then x else v i) (n + 1) n := by
  refine ⟨fun i h0 hi hne => ?_, fun i h0 hi he hn => by omega⟩
  simp only
  rw [if_neg hne, if_neg (show ¬ (i - 1) / 2 = n by omega)]
  exact h i h0 (by omega)
theorem Ho.min (h : Ho pr v n) : ∀ i, i < n → pr (v 0) ≤ pr (v i) := by
  intro i
  induction i using Nat.strongRecOn with
  | _ i ih =>
    intro hi
    by_cases h0 : i = 0
    · rw [h0]; exact Int.le_refl _
    · have h1 := h i (by omega) hi
      have h2 := ih ((i - 1) / 2) (by omega) (by omega)
      omega
theorem Ho.rem {x : Nat} (h : Ho pr v (n + 1)) : Hd pr (fun i => if i = 0 then x else v i) n 0 := by
  refine ⟨fun i h0 hi hne => ?_, fun i h0 hi he hn => by omega⟩
  simp only
  rw [if_neg hne, if_neg (show ¬ i = 0 by omega)]
  exact h i h0 (by omega)
/-- c: the lesser child of k -/
def Lc (pr : Nat → Int) (v : Nat → Nat) (n k c : Nat) : Prop := (c = 2 * k + 1 ∨ c = 2 * k + 2) ∧ c < n ∧ ∀ i, 0 < i → i < n → (i - 1) / 2 = k → pr (v c) ≤ pr (v i)
theorem Hd.down {c : Nat} (h : Hd pr v n k) (hc : Lc pr v n k c) (hlt : pr (v c) < pr (v k)) : Hd pr (swp2 v k c) n c := by
  obtain ⟨h1, h2⟩ := h
  obtain ⟨c1, c2, c3⟩ := hc
  have hpc : (c - 1) / 2 = k := by omega
  have hck : k < c := by omega
  refine ⟨fun i h0 hi hne => ?_, fun i h0 hi he hp0 => ?_⟩
  · unfold swp2
    by_cases hpk : (i - 1) / 2 = k
    · have h3 := c3 i h0 hi hpk
      rw [if_pos hpk, if_neg (show ¬ i = k by omega)]
      by_cases hic : i = c
      · rw [if_pos hic]; omega
      · rw [if_neg hic]; exact h3
    · rw [if_neg hpk, if_neg hne]
      by_cases hik : i = k
      · rw [if_pos hik]
        have := h2 c (by omega) c2 hpc (by omega)
        rw [hik]; exact this
      · rw [if_neg hik, if_neg (by omega)]
        exact h1 i h0 hi hpk
  · unfold swp2
    rw [hpc, if_pos rfl, if_neg (by omega), if_neg (by omega)]
    have := h1 i h0 hi (by omega)
    rw [he] at this
    exact this
theorem Hd.done (h : Hd pr v n k) (hd : ∀ i, 0 < i → i < n → (i - 1) / 2 = k → pr (v k) ≤ pr (v i)) : Ho pr v n := by
  intro i h0 hi
  by_cases hk : (i - 1) / 2 = k
  · rw [hk]; exact hd i h0 hi hk
  · exact h.1 i h0 hi hk
end HEAP
theorem rr_hf0 : ∀ z : Fin 1024, rr_ushr (z.val : Int) 1 = (z.val : Int) / 2 ∧ rr_shr (z.val : Int) 1 = (z.val : Int) / 2 ∧ rr_shl (z.val : Int) 1 = 2 * (z.val : Int) := by decide +kernel
theorem rr_hf {z : Int} (h : 0 ≤ z ∧ z < 1024) : rr_ushr z 1 = z / 2 ∧ rr_shr z 1 = z / 2 ∧ rr_shl z 1 = 2 * z := by
  have h1 := rr_hf0 ⟨z.toNat, by omega⟩
  have : ((z.toNat : Nat) : Int) = z := by omega
  simp only [this] at h1
  exact h1
section CMP
variable {G : rr_G} {nx : Nat} {K N : Nat → Nat} {I : Nat → Int → Int} {R : Nat → Int → Option Nat} {a b : Nat}
def TwO (K : Nat → Nat) (I : Nat → Int → Int) (x : Nat) : Prop := K x = 9 ∧ (0 ≤ I x 0 ∧ I x 0 < 100) ∧ (0 ≤ I x 1 ∧ I x 1 < 100) ∧ 0 ≤ I x 2 ∧ I x 2 < 100
def prT (I : Nat → Int → Int) (x : Nat) : Int := I x 2 * 10000 + I x 0 * 100 + I x 1
def CmP (h : rr_H) (nx : Nat) (p q : Int) : rr_V → rr_H → Nat → Prop := fun w h2 n2 => ∃ z, w = vI z ∧ h2 = h ∧ nx = n2 ∧ (-2 ≤ z ∧ z ≤ 2) ∧ (z < 0 ↔ p < q) ∧ (0 < z ↔ q < p)
theorem jc_two2 (ha : TwO K I a) (hb : TwO K I b) : gP G yX7_compareTo_2 cX7_compareTo_2 2 ((some FieldType.int)) 0 0 0 [vR (some a), vR (some b)] (K, N, I, R) nx (CmP (K, N, I, R) nx (prT I a) (prT I b)) := by
  obtain ⟨a0, a1, a2, a3⟩ := ha
  obtain ⟨b0, b1, b2, b3⟩ := hb
  refine gP.of (by decide) rfl (Nat.le_of_ble_eq_true rfl) ?_
  refine x_ls (ls2 := [some (vR (some a)), some (vR (some b))]) rfl ?_
  refine x_aload_n dX7_compareTo_2_0 rfl ?_
  refine g_getI 2 (ci := 9) (kf := 2) rfl (by decide) (by decide) rfl rfl q1580 rfl (by first | assumption | grind) dX7_compareTo_2_1 ?_
  refine x_aload_n dX7_compareTo_2_4 rfl ?_
  refine g_getI 2 (ci := 9) (kf := 2) rfl (by decide) (by decide) rfl rfl q1580 rfl (by first | assumption | grind) dX7_compareTo_2_5 ?_
  refine x_icmp_eq (t := 28) dX7_compareTo_2_8 (by decide) (by omega) (fun c_8 => ?_) (fun c_8 => ?_)
  · skip
    refine x_aload_n dX7_compareTo_2_28 rfl ?_
    refine g_getI 0 (ci := 9) (kf := 0) rfl (by decide) (by decide) rfl rfl q1576 rfl (by first | assumption | grind) dX7_compareTo_2_29 ?_
    refine x_aload_n dX7_compareTo_2_32 rfl ?_
    refine g_getI 0 (ci := 9) (kf := 0) rfl (by decide) (by decide) rfl rfl q1576 rfl (by first | assumption | grind) dX7_compareTo_2_33 ?_
    refine x_icmp_eq (t := 56) dX7_compareTo_2_36 (by decide) (by omega) (fun c_36 => ?_) (fun c_36 => ?_)
    · skip
      refine x_aload_n dX7_compareTo_2_56 rfl ?_
      refine g_getI 1 (ci := 9) (kf := 1) rfl (by decide) (by decide) rfl rfl q1578 rfl (by first | assumption | grind) dX7_compareTo_2_57 ?_
      refine x_aload_n dX7_compareTo_2_60 rfl ?_
      refine g_getI 1 (ci := 9) (kf := 1) rfl (by decide) (by decide) rfl rfl q1578 rfl (by first | assumption | grind) dX7_compareTo_2_61 ?_
      refine x_icmp_ge (t := 71) dX7_compareTo_2_64 (by decide) (by omega) (fun c_64 => ?_) (fun c_64 => ?_)
      · skip
        refine x_aload_n dX7_compareTo_2_71 rfl ?_
        refine g_getI 1 (ci := 9) (kf := 1) rfl (by decide) (by decide) rfl rfl q1578 rfl (by first | assumption | grind) dX7_compareTo_2_72 ?_
        refine x_aload_n dX7_compareTo_2_75 rfl ?_
        refine g_getI 1 (ci := 9) (kf := 1) rfl (by decide) (by decide) rfl rfl q1578 rfl (by first | assumption | grind) dX7_compareTo_2_76 ?_
        refine x_icmp_le (t := 86) dX7_compareTo_2_79 (by decide) (by omega) (fun c_79 => ?_) (fun c_79 => ?_)
        · skip
          refine x_iconst dX7_compareTo_2_86 ?_
          refine gp_iret rfl dX7_compareTo_2_87 (by omega) (by omega) ?_
          exact ⟨_, rfl, rfl, rfl, by omega, by unfold prT; omega, by unfold prT; omega⟩
        · skip
          refine x_iconst dX7_compareTo_2_82 ?_
          refine x_goto (t := 87) dX7_compareTo_2_83 (by decide) ?_
          refine gp_iret rfl dX7_compareTo_2_87 (by omega) (by omega) ?_
          exact ⟨_, rfl, rfl, rfl, by omega, by unfold prT; omega, by unfold prT; omega⟩
      · skip
        refine x_iconst dX7_compareTo_2_67 ?_
        refine x_goto (t := 87) dX7_compareTo_2_68 (by decide) ?_
        refine gp_iret rfl dX7_compareTo_2_87 (by omega) (by omega) ?_
        exact ⟨_, rfl, rfl, rfl, by omega, by unfold prT; omega, by unfold prT; omega⟩
    · skip
      refine x_aload_n dX7_compareTo_2_39 rfl ?_
      refine g_getI 0 (ci := 9) (kf := 0) rfl (by decide) (by decide) rfl rfl q1576 rfl (by first | assumption | grind) dX7_compareTo_2_40 ?_
      refine x_aload_n dX7_compareTo_2_43 rfl ?_
      refine g_getI 0 (ci := 9) (kf := 0) rfl (by decide) (by decide) rfl rfl q1576 rfl (by first | assumption | grind) dX7_compareTo_2_44 ?_
      refine x_icmp_ge (t := 54) dX7_compareTo_2_47 (by decide) (by omega) (fun c_47 => ?_) (fun c_47 => ?_)
      · skip
        refine x_iconst dX7_compareTo_2_54 ?_
        refine gp_iret rfl dX7_compareTo_2_55 (by omega) (by omega) ?_
        exact ⟨_, rfl, rfl, rfl, by omega, by unfold prT; omega, by unfold prT; omega⟩
      · skip
        refine x_iconst dX7_compareTo_2_50 ?_
        refine x_goto (t := 55) dX7_compareTo_2_51 (by decide) ?_
        refine gp_iret rfl dX7_compareTo_2_55 (by omega) (by omega) ?_
        exact ⟨_, rfl, rfl, rfl, by omega, by unfold prT; omega, by unfold prT; omega⟩
  · skip
    refine x_aload_n dX7_compareTo_2_11 rfl ?_
    refine g_getI 2 (ci := 9) (kf := 2) rfl (by decide) (by decide) rfl rfl q1580 rfl (by first | assumption | grind) dX7_compareTo_2_12 ?_
    refine x_aload_n dX7_compareTo_2_15 rfl ?_
    refine g_getI 2 (ci := 9) (kf := 2) rfl (by decide) (by decide) rfl rfl q1580 rfl (by first | assumption | grind) dX7_compareTo_2_16 ?_
    refine x_icmp_ge (t := 26) dX7_compareTo_2_19 (by decide) (by omega) (fun c_19 => ?_) (fun c_19 => ?_)
    · skip
      refine x_iconst dX7_compareTo_2_26 ?_
      refine gp_iret rfl dX7_compareTo_2_27 (by omega) (by omega) ?_
      exact ⟨_, rfl, rfl, rfl, by omega, by unfold prT; omega, by unfold prT; omega⟩
    · skip
      refine x_iconst dX7_compareTo_2_22 ?_
      refine x_goto (t := 27) dX7_compareTo_2_23 (by decide) ?_
      refine gp_iret rfl dX7_compareTo_2_27 (by omega) (by omega) ?_
      exact ⟨_, rfl, rfl, rfl, by omega, by unfold prT; omega, by unfold prT; omega⟩
theorem jc_two (ha : TwO K I a) (hb : TwO K I b) : gP G yX7_compareTo cX7_compareTo 2 ((some FieldType.int)) 1 0 0 [vR (some a), vR (some b)] (K, N, I, R) nx (CmP (K, N, I, R) nx (prT I a) (prT I b)) := by
  have hKa := ha.1
  have hKb := hb.1
  refine gP.of (by decide) rfl (Nat.le_of_ble_eq_true rfl) ?_
  refine x_ls (ls2 := [some (vR (some a)), some (vR (some b))]) rfl ?_
  refine x_aload_n dX7_compareTo_0 rfl ?_
  refine x_aload_n dX7_compareTo_1 rfl ?_
  refine g_cast (ci := 9) rfl (by decide) q633 (Or.inl rfl) (by first | assumption | grind) dX7_compareTo_2 ?_
  refine g_cv1 (ci := 9) (jc_two2 ha hb) fX7_compareTo_2 q634 rfl (by decide) (by first | assumption | grind) (by decide) (Nat.le_of_ble_eq_true rfl) (by omega) (by omega) dX7_compareTo_5 (fun v h2 n2 hp => ?_)
  obtain ⟨z, rfl, rfl, rfl, hz⟩ := hp
  refine gp_iret rfl dX7_compareTo_8 (by omega) (by omega) ?_
  exact ⟨_, rfl, rfl, rfl, hz⟩
def WoO (K : Nat → Nat) (I : Nat → Int → Int) (x : Nat) : Prop := K x = 6 ∧ (0 ≤ I x 1 ∧ I x 1 < 1000) ∧ (0 ≤ I x 2 ∧ I x 2 < 1000)
def prW (I : Nat → Int → Int) (x : Nat) : Int := (1000 - I x 1) * 1000 + I x 2
theorem jc_word2 {o : Nat} (ha : WoO K I a) (hb : WoO K I b) : gP G yX10_compare_2 cX10_compare_2 3 ((some FieldType.int)) 0 0 0 [vR (some o), vR (some a), vR (some b)] (K, N, I, R) nx (CmP (K, N, I, R) nx (prW I a) (prW I b)) := by
  obtain ⟨a0, a1, a2⟩ := ha
  obtain ⟨b0, b1, b2⟩ := hb
  refine gP.of (by decide) rfl (Nat.le_of_ble_eq_true rfl) ?_
  refine x_ls (ls2 := [some (vR (some o)), some (vR (some a)), some (vR (some b))]) rfl ?_
  refine x_aload_n dX10_compare_2_0 rfl ?_
  refine g_getIN 1 (ci := 6) (kf := 1) rfl (by decide) (by decide) rfl rfl q1032 rfl (by first | assumption | grind) dX10_compare_2_1 ?_
  refine x_aload_n dX10_compare_2_4 rfl ?_
  refine g_getIN 1 (ci := 6) (kf := 1) rfl (by decide) (by decide) rfl rfl q1032 rfl (by first | assumption | grind) dX10_compare_2_5 ?_
  refine x_icmp_eq (t := 28) dX10_compare_2_8 (by decide) (by omega) (fun c_8 => ?_) (fun c_8 => ?_)
  · skip
    refine x_aload_n dX10_compare_2_28 rfl ?_
    refine g_getIN 2 (ci := 6) (kf := 2) rfl (by decide) (by decide) rfl rfl q1034 rfl (by first | assumption | grind) dX10_compare_2_29 ?_
    refine x_aload_n dX10_compare_2_32 rfl ?_
    refine g_getIN 2 (ci := 6) (kf := 2) rfl (by decide) (by decide) rfl rfl q1034 rfl (by first | assumption | grind) dX10_compare_2_33 ?_
    refine x_icmp_ge (t := 43) dX10_compare_2_36 (by decide) (by omega) (fun c_36 => ?_) (fun c_36 => ?_)
    · skip
      refine x_aload_n dX10_compare_2_43 rfl ?_
      refine g_getIN 2 (ci := 6) (kf := 2) rfl (by decide) (by decide) rfl rfl q1034 rfl (by first | assumption | grind) dX10_compare_2_44 ?_
      refine x_aload_n dX10_compare_2_47 rfl ?_
      refine g_getIN 2 (ci := 6) (kf := 2) rfl (by decide) (by decide) rfl rfl q1034 rfl (by first | assumption | grind) dX10_compare_2_48 ?_
      refine x_icmp_le (t := 58) dX10_compare_2_51 (by decide) (by omega) (fun c_51 => ?_) (fun c_51 => ?_)
      · skip
        refine x_iconst dX10_compare_2_58 ?_
        refine gp_iret rfl dX10_compare_2_59 (by omega) (by omega) ?_
        exact ⟨_, rfl, rfl, rfl, by omega, by unfold prW; omega, by unfold prW; omega⟩
      · skip
        refine x_iconst dX10_compare_2_54 ?_
        refine x_goto (t := 59) dX10_compare_2_55 (by decide) ?_
        refine gp_iret rfl dX10_compare_2_59 (by omega) (by omega) ?_
        exact ⟨_, rfl, rfl, rfl, by omega, by unfold prW; omega, by unfold prW; omega⟩
    · skip
      refine x_iconst dX10_compare_2_39 ?_
      refine x_goto (t := 59) dX10_compare_2_40 (by decide) ?_
      refine gp_iret rfl dX10_compare_2_59 (by omega) (by omega) ?_
      exact ⟨_, rfl, rfl, rfl, by omega, by unfold prW; omega, by unfold prW; omega⟩
  · skip
    refine x_aload_n dX10_compare_2_11 rfl ?_
    refine g_getIN 1 (ci := 6) (kf := 1) rfl (by decide) (by decide) rfl rfl q1032 rfl (by first | assumption | grind) dX10_compare_2_12 ?_
    refine x_aload_n dX10_compare_2_15 rfl ?_
    refine g_getIN 1 (ci := 6) (kf := 1) rfl (by decide) (by decide) rfl rfl q1032 rfl (by first | assumption | grind) dX10_compare_2_16 ?_
    refine x_icmp_le (t := 26) dX10_compare_2_19 (by decide) (by omega) (fun c_19 => ?_) (fun c_19 => ?_)
    · skip
      refine x_iconst dX10_compare_2_26 ?_
      refine gp_iret rfl dX10_compare_2_27 (by omega) (by omega) ?_
      exact ⟨_, rfl, rfl, rfl, by omega, by unfold prW; omega, by unfold prW; omega⟩
    · skip
      refine x_iconst dX10_compare_2_22 ?_
      refine x_goto (t := 27) dX10_compare_2_23 (by decide) ?_
      refine gp_iret rfl dX10_compare_2_27 (by omega) (by omega) ?_
      exact ⟨_, rfl, rfl, rfl, by omega, by unfold prW; omega, by unfold prW; omega⟩
theorem jc_word {o : Nat} (ho : K o = 13) (ha : WoO K I a) (hb : WoO K I b) : gP G yX10_compare cX10_compare 3 ((some FieldType.int)) 1 0 0 [vR (some o), vR (some a), vR (some b)] (K, N, I, R) nx (CmP (K, N, I, R) nx (prW I a) (prW I b)) := by
  have hKa := ha.1
  have hKb := hb.1
  refine gP.of (by decide) rfl (Nat.le_of_ble_eq_true rfl) ?_
  refine x_ls (ls2 := [some (vR (some o)), some (vR (some a)), some (vR (some b))]) rfl ?_
  refine x_aload_n dX10_compare_0 rfl ?_
  refine x_aload_n dX10_compare_1 rfl ?_
  refine g_cast (ci := 6) rfl (by decide) q614 (Or.inl rfl) (by first | assumption | grind) dX10_compare_2 ?_
  refine x_aload_n dX10_compare_5 rfl ?_
  refine g_cast (ci := 6) rfl (by decide) q614 (Or.inl rfl) (by first | assumption | grind) dX10_compare_6 ?_
  refine g_cv2 (ci := 13) (jc_word2 ha hb) fX10_compare_2 q615 rfl (by decide) (by first | assumption | grind) (by decide) (Nat.le_of_ble_eq_true rfl) (by omega) (by omega) dX10_compare_9 (fun v h2 n2 hp => ?_)
  obtain ⟨z, rfl, rfl, rfl, hz⟩ := hp
  refine gp_iret rfl dX10_compare_12 (by omega) (by omega) ?_
  exact ⟨_, rfl, rfl, rfl, hz⟩
end CMP
