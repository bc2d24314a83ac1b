/-! SYSTEM, QUERIES 1: unlike, sign, size, judged -/
set_option maxRecDepth 100000
section QU
variable {G : rr_G} {nx : Nat} {K N : Nat → Nat} {I I1 I2 J : Nat → Int → Int} {R : Nat → Int → Option Nat} {T : Nat} {f g w : Int}
/-- a 32-bit number -/
theorem jc_signQ (hs : Ss K N R) (ht : Td K N R T) (hg : SgM I J T) (hf : i32 f) : gP G yX0_sign cX0_sign 2 ((some FieldType.int)) 2 0 0 [vR (some 300), vI f] (K, N, I, R) nx (gEq (vI (v_sign f J)) (K, N, I, R) nx) := by
  have hn332 : N 332 = 20 := hs.n 332 (by decide)
  obtain ⟨hT0, hsg, hsr, hn20, hn0⟩ := hg
  have hfI : 0 ≤ I T 0 ∧ I T 0 ≤ 20 := by omega
  have hf2 : -2147483648 ≤ f ∧ f < 2147483648 := hf
  refine gP.of (by decide) rfl (Nat.le_of_ble_eq_true rfl) ?_
  refine x_ls (ls2 := [some (vR (some 300)), some (vI f)]) rfl ?_
  refine x_aload_n dX0_sign_0 rfl ?_
  refine x_iload_n dX0_sign_1 rfl ?_
  refine g_cv1 (ci := 1) (jc_isForm hs ht hfI hf2) fX0_isForm q1284 rfl (by decide) (hs.k 300 (by decide)) (by decide) (Nat.le_of_ble_eq_true rfl) (by omega) (by omega) dX0_sign_2 (fun v h2 n2 hp => ?_)
  obtain ⟨rfl, rfl, rfl⟩ := hp
  refine x_if_eq_b (t := 17) dX0_sign_5 (by decide) (fun c_5 => ?_) (fun c_5 => ?_)
  · skip
    refine x_iconst dX0_sign_17 ?_
    refine gp_iret rfl dX0_sign_18 (by omega) (by omega) ?_
    exact ⟨by unfold v_sign; first | rw [if_neg (by omega)] | (rw [if_pos (by omega), (hsg f (by omega) (by omega)).1.1]), rfl, rfl⟩
  · skip
    refine x_aload_n dX0_sign_8 rfl ?_
    refine g_getR 8 (r := some 332) (ci := 1) (kf := 8) rfl (by decide) (by decide) rfl rfl q1316 rfl (hs.k 300 (by decide)) (hs.r 8 (by decide)) dX0_sign_9 ?_
    refine x_iload_n dX0_sign_12 rfl ?_
    refine g_iald (hs.k 332 (by decide)) rfl (by omega) dX0_sign_13 ?_
    refine x_goto (t := 18) dX0_sign_14 (by decide) ?_
    refine gp_iret rfl dX0_sign_18 (by omega) (by omega) ?_
    exact ⟨by unfold v_sign; first | rw [if_neg (by omega)] | (rw [if_pos (by omega), (hsg f (by omega) (by omega)).1.1]), rfl, rfl⟩
theorem jc_judgedQ (hs : Ss K N R) (hf : i32 w) : gP G yX0_judged cX0_judged 2 ((some FieldType.int)) 1 0 0 [vR (some 300), vI w] (K, N, I, R) nx (gEq (vI (if 0 ≤ w ∧ w ≤ 4 then I 342 w else -1)) (K, N, I, R) nx) := by
  have hn342 : N 342 = 5 := hs.n 342 (by decide)
  have hf2 : -2147483648 ≤ w ∧ w < 2147483648 := hf
  refine gP.of (by decide) rfl (Nat.le_of_ble_eq_true rfl) ?_
  refine x_ls (ls2 := [some (vR (some 300)), some (vI w)]) rfl ?_
  refine x_iload_n dX0_judged_0 rfl ?_
  refine x_i2l dX0_judged_1 (by omega) ?_
  refine x_lconst (z := 0) dX0_judged_2 (by decide) ?_
  refine x_ldc2 (z := 4) q1785 dX0_judged_3 (by decide) ?_
  refine g_cs3 (xc_in (by omega) (by omega) (by omega) _ _ _) fX0_in q1288 (by decide) (Nat.le_of_ble_eq_true rfl) (by omega) (by omega) dX0_judged_6 (fun v h2 n2 hp => ?_)
  obtain ⟨rfl, rfl, rfl⟩ := hp
  refine x_if_eq_b (t := 21) dX0_judged_9 (by decide) (fun c_9 => ?_) (fun c_9 => ?_)
  · skip
    refine x_iconst dX0_judged_21 ?_
    refine gp_iret rfl dX0_judged_22 (by omega) (by omega) ?_
    exact ⟨by first | rw [if_neg (by omega)] | rw [if_pos (by omega)], rfl, rfl⟩
  · skip
    refine x_aload_n dX0_judged_12 rfl ?_
    refine g_getR 12 (r := some 342) (ci := 1) (kf := 12) rfl (by decide) (by decide) rfl rfl q1320 rfl (hs.k 300 (by decide)) (hs.r 12 (by decide)) dX0_judged_13 ?_
    refine x_iload_n dX0_judged_16 rfl ?_
    refine g_iald (hs.k 342 (by decide)) rfl (by omega) dX0_judged_17 ?_
    refine x_goto (t := 22) dX0_judged_18 (by decide) ?_
    refine gp_iret rfl dX0_judged_22 (by omega) (by omega) ?_
    exact ⟨by first | rw [if_neg (by omega)] | rw [if_pos (by omega)], rfl, rfl⟩
end QU
