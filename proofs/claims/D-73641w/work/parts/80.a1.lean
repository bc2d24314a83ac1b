/-! SYSTEM, QUERIES 1: unlike, sign, size, judged -/
set_option maxRecDepth 100000
section QU
variable {G : rr_G} {nx : Nat} {K N : Nat → Nat} {I I1 I2 J : Nat → Int → Int} {R : Nat → Int → Option Nat} {T : Nat} {f g w : Int}
/-- a 32-bit number -/
theorem jc_signQ (hs : Ss K N R) (ht : Td K N R T) (hg : SgM I J T) (hf : i32 f) : gP G yX0_sign cX0_sign 2 ((some FieldType.int)) 2 0 0 [vR (some 300), vI f] (K, N, I, R) nx (gEq (vI (v_sign f J)) (K, N, I, R) nx) := by
  have hn332 : N 332 = 20 := hs.n 332 (by decide)
  obtain ⟨hT0, hsg, hsr, hn20, hn0⟩ := hg
  have hfI : 0 ≤ I T 0 ∧ I T 0 ≤ 20 := by omega
  have hf2 : -2147483648 ≤ f ∧ f < 2147483648 := hf
  refine gP.of (by decide) rfl (Nat.le_of_ble_eq_true rfl) ?_
  refine x_ls (ls2 := [some (vR (some 300)), some (vI f)]) rfl ?_
  refine x_aload_n dX0_sign_0 rfl ?_
  refine x_iload_n dX0_sign_1 rfl ?_
  refine g_cv1 (ci := 1) (jc_isForm hs ht hfI hf2) fX0_isForm q1284 rfl (by decide) (hs.k 300 (by decide)) (by decide) (Nat.le_of_ble_eq_true rfl) (by omega) (by omega) dX0_sign_2 (fun v h2 n2 hp => ?_)
  obtain ⟨rfl, rfl, rfl⟩ := hp
  refine x_if_eq_b (t := 17) dX0_sign_5 (by decide) (fun c_5 => ?_) (fun c_5 => ?_)
  · skip
    refine x_iconst dX0_sign_17 ?_
    refine gp_iret rfl dX0_sign_18 (by omega) (by omega) ?_
    exact ⟨by unfold v_sign; first | rw [if_neg (by omega)] | (rw [if_pos (by omega), (hsg f (by omega) (by omega)).1.1]), rfl, rfl⟩
  · skip
    refine x_aload_n dX0_sign_8 rfl ?_
    refine g_getR 8 (r := some 332) (ci := 1) (kf := 8) rfl (by decide) (by decide) rfl rfl q1316 rfl (hs.k 300 (by decide)) (hs.r 8 (by decide)) dX0_sign_9 ?_
    refine x_iload_n dX0_sign_12 rfl ?_
    refine g_iald (hs.k 332 (by decide)) rfl (by omega) dX0_sign_13 ?_
    refine x_goto (t := 18) dX0_sign_14 (by decide) ?_
    refine gp_iret rfl dX0_sign_18 (by omega) (by omega) ?_
    exact ⟨by unfold v_sign; first | rw [if_neg (by omega)] | (rw [if_pos (by omega), (hsg f (by omega) (by omega)).1.1]), rfl, rfl⟩
theorem jc_judgedQ (hs : Ss K N R) (hf : i32 w) : gP G yX0_judged cX0_judged 2 ((some FieldType.int)) 1 0 0 [vR (some 300), vI w] (K, N, I, R) nx (gEq (vI (if 0 ≤ w ∧ w ≤ 4 then I 342 w else -1)) (K, N, I, R) nx) := by
  have hn342 : N 342 = 5 := hs.n 342 (by decide)
  have hf2 : -2147483648 ≤ w ∧ w < 2147483648 := hf
  refine gP.of (by decide) rfl (Nat.le_of_ble_eq_true rfl) ?_
  refine x_ls (ls2 := [some (vR (some 300)), some (vI w)]) rfl ?_
  refine x_iload_n dX0_judged_0 rfl ?_
  refine x_i2l dX0_judged_1 (by omega) ?_
  refine x_lconst (z := 0) dX0_judged_2 (by decide) ?_
  refine x_ldc2 (z := 4) q1785 dX0_judged_3 (by decide) ?_
  refine g_cs3 (xc_in (by omega) (by omega) (by omega) _ _ _) fX0_in q1288 (by decide) (Nat.le_of_ble_eq_true rfl) (by omega) (by omega) dX0_judged_6 (fun v h2 n2 hp => ?_)
  obtain ⟨rfl, rfl, rfl⟩ := hp
  refine x_if_eq_b (t := 21) dX0_judged_9 (by decide) (fun c_9 => ?_) (fun c_9 => ?_)
  · skip
    refine x_iconst dX0_judged_21 ?_
    refine gp_iret rfl dX0_judged_22 (by omega) (by omega) ?_
    exact ⟨by first | rw [if_neg (by omega)] | rw [if_pos (by omega)], rfl, rfl⟩
  · skip
    refine x_aload_n dX0_judged_12 rfl ?_
    refine g_getR 12 (r := some 342) (ci := 1) (kf := 12) rfl (by decide) (by decide) rfl rfl q1320 rfl (hs.k 300 (by decide)) (hs.r 12 (by decide)) dX0_judged_13 ?_
    refine x_iload_n dX0_judged_16 rfl ?_
    refine g_iald (hs.k 342 (by decide)) rfl (by omega) dX0_judged_17 ?_
    refine x_goto (t := 22) dX0_judged_18 (by decide) ?_
    refine gp_iret rfl dX0_judged_22 (by omega) (by omega) ?_
    exact ⟨by first | rw [if_neg (by omega)] | rw [if_pos (by omega)], rfl, rfl⟩
end QU
section QU
variable {G : rr_G} {nx : Nat} {K N : Nat → Nat} {I I1 I2 J : Nat → Int → Int} {R : Nat → Int → Option Nat} {T : Nat} {f g w : Int}
theorem jc_unlikeQ (hs : Ss K N R) (ht : Td K N R T) (hT : 0 ≤ I T 0 ∧ I T 0 ≤ 20) (hf : i32 f) (hg : i32 g) : gP G yX0_unlike cX0_unlike 3 ((some FieldType.int)) 2 0 0 [vR (some 300), vI f, vI g] (K, N, I, R) nx (gEq (vI (if (0 ≤ f ∧ f < I T 0) ∧ 0 ≤ g ∧ g < I T 0 then (if f = g then 0 else I (311 + f.toNat) g) else -1)) (K, N, I, R) nx) := by
  have hn310 : N 310 = 20 := hs.n 310 (by decide)
  have hf2 : -2147483648 ≤ f ∧ f < 2147483648 := hf
  have hg2 : -2147483648 ≤ g ∧ g < 2147483648 := hg
  have hu := fun h : 0 ≤ f ∧ f < 20 => hs.u h
  refine gP.of (by decide) rfl (Nat.le_of_ble_eq_true rfl) ?_
  refine x_ls (ls2 := [some (vR (some 300)), some (vI f), some (vI g)]) rfl ?_
  refine x_aload_n dX0_unlike_0 rfl ?_
  refine x_iload_n dX0_unlike_1 rfl ?_
  refine g_cv1 (ci := 1) (jc_isForm hs ht hT hf2) fX0_isForm q1284 rfl (by decide) (hs.k 300 (by decide)) (by decide) (Nat.le_of_ble_eq_true rfl) (by omega) (by omega) dX0_unlike_2 (fun v h2 n2 hp => ?_)
  obtain ⟨rfl, rfl, rfl⟩ := hp
  refine x_if_eq_b (t := 36) dX0_unlike_5 (by decide) (fun c_5 => ?_) (fun c_5 => ?_)
  · skip
    refine x_iconst dX0_unlike_36 ?_
    refine gp_iret rfl dX0_unlike_37 (by omega) (by omega) ?_
    exact ⟨by first | rw [if_neg (by omega)] | rw [if_pos (by omega), if_pos (by omega)] | rw [if_pos (by omega), if_neg (by omega)], rfl, rfl⟩
  · skip
    obtain ⟨hu1, hu2, hu3⟩ := hu (by omega)
    refine x_aload_n dX0_unlike_8 rfl ?_
    refine x_iload_n dX0_unlike_9 rfl ?_
    refine g_cv1 (ci := 1) (jc_isForm hs ht hT hg2) fX0_isForm q1284 rfl (by decide) (hs.k 300 (by decide)) (by decide) (Nat.le_of_ble_eq_true rfl) (by omega) (by omega) dX0_unlike_10 (fun v h2 n2 hp => ?_)
    obtain ⟨rfl, rfl, rfl⟩ := hp
    refine x_if_eq_b (t := 36) dX0_unlike_13 (by decide) (fun c_13 => ?_) (fun c_13 => ?_)
    · skip
      refine x_iconst dX0_unlike_36 ?_
      refine gp_iret rfl dX0_unlike_37 (by omega) (by omega) ?_
      exact ⟨by first | rw [if_neg (by omega)] | rw [if_pos (by omega), if_pos (by omega)] | rw [if_pos (by omega), if_neg (by omega)], rfl, rfl⟩
    · skip
      refine x_iload_n dX0_unlike_16 rfl ?_
      refine x_iload_n dX0_unlike_17 rfl ?_
      refine x_icmp_ne (t := 25) dX0_unlike_18 (by decide) (by omega) (fun c_18 => ?_) (fun c_18 => ?_)
      · skip
        refine x_aload_n dX0_unlike_25 rfl ?_
        refine g_getR 5 (r := some 310) (ci := 1) (kf := 5) rfl (by decide) (by decide) rfl rfl q1313 rfl (hs.k 300 (by decide)) (hs.r 5 (by decide)) dX0_unlike_26 ?_
        refine x_iload_n dX0_unlike_29 rfl ?_
        refine g_aald (t := 10) (r := some (311 + f.toNat)) rfl rfl rfl (hs.k 310 (by decide)) rfl (by omega) (hu1) dX0_unlike_30 ?_
        refine x_iload_n dX0_unlike_31 rfl ?_
        refine g_iald (hu2) rfl (by omega) dX0_unlike_32 ?_
        refine x_goto (t := 37) dX0_unlike_33 (by decide) ?_
        refine gp_iret rfl dX0_unlike_37 (by omega) (by omega) ?_
        exact ⟨by first | rw [if_neg (by omega)] | rw [if_pos (by omega), if_pos (by omega)] | rw [if_pos (by omega), if_neg (by omega)], rfl, rfl⟩
      · skip
        refine x_iconst dX0_unlike_21 ?_
        refine x_goto (t := 37) dX0_unlike_22 (by decide) ?_
        refine gp_iret rfl dX0_unlike_37 (by omega) (by omega) ?_
        exact ⟨by first | rw [if_neg (by omega)] | rw [if_pos (by omega), if_pos (by omega)] | rw [if_pos (by omega), if_neg (by omega)], rfl, rfl⟩
theorem jc_sizeQ (hs : Ss K N R) (ht : Td K N R T) (hg : SgM I J T) (hf : i32 f) : gP G yX0_size cX0_size 4 ((some FieldType.int)) 2 0 0 [vR (some 300), vI f] (K, N, I, R) nx (gEq (vI (v_size f J)) (K, N, I, R) nx) := by
  have hn332 : N 332 = 20 := hs.n 332 (by decide)
  obtain ⟨hT0, hsg, hsr, hn20, hn0⟩ := hg
  have hfI : 0 ≤ I T 0 ∧ I T 0 ≤ 20 := by omega
  have hf2 : -2147483648 ≤ f ∧ f < 2147483648 := hf
  refine gP.of (by decide) rfl (Nat.le_of_ble_eq_true rfl) ?_
  refine x_ls (ls2 := [some (vR (some 300)), some (vI f), none, none]) rfl ?_
  refine x_aload_n dX0_size_0 rfl ?_
  refine x_iload_n dX0_size_1 rfl ?_
  refine g_cv1 (ci := 1) (jc_isForm hs ht hfI hf2) fX0_isForm q1284 rfl (by decide) (hs.k 300 (by decide)) (by decide) (Nat.le_of_ble_eq_true rfl) (by omega) (by omega) dX0_size_2 (fun v h2 n2 hp => ?_)
  obtain ⟨rfl, rfl, rfl⟩ := hp
  refine x_if_ne_b (t := 10) dX0_size_5 (by decide) (fun c_5 => ?_) (fun c_5 => ?_)
  · skip
    refine x_iconst dX0_size_10 ?_
    refine x_istore_n dX0_size_11 (by decide) ?_
    refine x_iconst dX0_size_12 ?_
    refine x_istore_n dX0_size_13 (by decide) ?_
    refine x_loc (ls2 := [some (vR (some 300)), some (vI f), some (vI (cnt (fun k => J 371 k = J 371 f) 0)), some (vI 0)]) (by rw [cnt_0]; exact (by repeat first | exact trivial | refine ⟨Or.inr rfl, ?_⟩ | refine ⟨Or.inl rfl, ?_⟩)) ?_
    refine s_for0 (W := fun k : Int => gp G yX0_size cX0_size 4 ((some FieldType.int)) 2 0 0 (gEq (vI (v_size f J)) (K, N, I, R) nx) 14 [some (vR (some 300)), some (vI f), some (vI (cnt (fun k => J 371 k = J 371 f) k)), some (vI k)] [] (K, N, I, R) nx 0 0) 0 (J 360 4) (by omega) ?_
    intro k h0 hk ih
    have e1 := fun h : k < J 360 4 => (hsg k h0 h).1
    have e2 := (hsg f (by omega) (by omega)).1
    have c1 := cnt_in (fun k => J 371 k = J 371 f) h0
    have c2 := cnt_up (fun k => J 371 k = J 371 f) h0
    refine x_iload_n dX0_size_14 rfl ?_
    refine x_aload_n dX0_size_15 rfl ?_
    refine g_getR 2 (r := some T) (ci := 1) (kf := 2) rfl (by decide) (by decide) rfl rfl q1307 rfl (hs.k 300 (by decide)) (ht.t) dX0_size_16 ?_
    refine g_getIN 0 (ci := 3) (kf := 0) rfl (by decide) (by decide) rfl rfl q210 rfl (ht.k) dX0_size_19 ?_
    rw [hT0]
    refine x_icmp_ge (t := 54) dX0_size_22 (by decide) (by omega) (fun c_22 => ?_) (fun c_22 => ?_)
    · skip
      refine x_iload_n dX0_size_54 rfl ?_
      refine gp_iret rfl dX0_size_55 (by omega) (by omega) ?_
      exact ⟨by unfold v_size; rw [if_pos (by omega), show k = J 360 4 by omega], rfl, rfl⟩
    · skip
      have e1 := e1 (by omega)
      refine x_iload_n dX0_size_25 rfl ?_
      refine x_aload_n dX0_size_26 rfl ?_
      refine g_getR 8 (r := some 332) (ci := 1) (kf := 8) rfl (by decide) (by decide) rfl rfl q1316 rfl (hs.k 300 (by decide)) (hs.r 8 (by decide)) dX0_size_27 ?_
      refine x_iload_n dX0_size_30 rfl ?_
      refine g_iald (hs.k 332 (by decide)) rfl (by omega) dX0_size_31 ?_
      refine x_aload_n dX0_size_32 rfl ?_
      refine g_getR 8 (r := some 332) (ci := 1) (kf := 8) rfl (by decide) (by decide) rfl rfl q1316 rfl (hs.k 300 (by decide)) (hs.r 8 (by decide)) dX0_size_33 ?_
      refine x_iload_n dX0_size_36 rfl ?_
      refine g_iald (hs.k 332 (by decide)) rfl (by omega) dX0_size_37 ?_
      rw [e1.1, e2.1]
      refine x_icmp_ne (t := 45) dX0_size_38 (by decide) (by omega) (fun c_38 => ?_) (fun c_38 => ?_)
      · skip
        refine x_iconst dX0_size_45 ?_
        refine x_iadd dX0_size_46 ?_
        refine x_top (cnt (fun k => J 371 k = J 371 f) (k + 1)) (by rw [c2]; first | rw [bi_t (by omega)] | rw [bi_f (by omega)]) ?_
        refine x_istore_n dX0_size_47 (by decide) ?_
        refine x_iinc dX0_size_48 rfl (by decide) ?_
        refine x_goto (t := 14) dX0_size_51 (by decide) ?_
        exact ih (by omega)
      · skip
        refine x_iconst dX0_size_41 ?_
        refine x_goto (t := 46) dX0_size_42 (by decide) ?_
        refine x_iadd dX0_size_46 ?_
        refine x_top (cnt (fun k => J 371 k = J 371 f) (k + 1)) (by rw [c2]; first | rw [bi_t (by omega)] | rw [bi_f (by omega)]) ?_
        refine x_istore_n dX0_size_47 (by decide) ?_
        refine x_iinc dX0_size_48 rfl (by decide) ?_
        refine x_goto (t := 14) dX0_size_51 (by decide) ?_
        exact ih (by omega)
  · skip
    refine x_iconst dX0_size_8 ?_
    refine gp_iret rfl dX0_size_9 (by omega) (by omega) ?_
    exact ⟨by unfold v_size; rw [if_neg (by omega)], rfl, rfl⟩
end QU
