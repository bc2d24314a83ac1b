/-! SYSTEM, QUERIES 2: place, known, end -/
set_option maxRecDepth 100000
section QU
variable {G : rr_G} {nx : Nat} {K N : Nat → Nat} {I I1 I2 J : Nat → Int → Int} {R : Nat → Int → Option Nat} {T : Nat} {f g w b : Int}
theorem jc_placeQ (hs : Ss K N R) (ht : Td K N R T) (hg : SgM I J T) (hg0 : GrM I J 333 0) (hg1 : GrM I J 334 1) (hf : i32 f) (hb : b = 0 ∨ b = 1) : gP G yX0_place cX0_place 3 ((some FieldType.int)) 2 0 0 [vR (some 300), vI f, vI b] (K, N, I, R) nx (gEq (vI (v_place f b J)) (K, N, I, R) nx) := by
  have hn332 : N 332 = 20 := hs.n 332 (by decide)
  have hn333 : N 333 = 20 := hs.n 333 (by decide)
  have hn334 : N 334 = 20 := hs.n 334 (by decide)
  obtain ⟨hT0, hsg, hsr, hn20, hn0⟩ := hg
  have hfI : 0 ≤ I T 0 ∧ I T 0 ≤ 20 := by omega
  have hf2 : -2147483648 ≤ f ∧ f < 2147483648 := hf
  refine gP.of (by decide) rfl (Nat.le_of_ble_eq_true rfl) ?_
  refine x_ls (ls2 := [some (vR (some 300)), some (vI f), some (vI b)]) rfl ?_
  refine x_aload_n dX0_place_0 rfl ?_
  refine x_iload_n dX0_place_1 rfl ?_
  refine g_cv1 (ci := 1) (jc_isForm hs ht hfI hf2) fX0_isForm q1284 rfl (by decide) (hs.k 300 (by decide)) (by decide) (Nat.le_of_ble_eq_true rfl) (by omega) (by omega) dX0_place_2 (fun v h2 n2 hp => ?_)
  obtain ⟨rfl, rfl, rfl⟩ := hp
  refine x_if_eq_b (t := 33) dX0_place_5 (by decide) (fun c_5 => ?_) (fun c_5 => ?_)
  · skip
    refine x_iconst dX0_place_33 ?_
    refine gp_iret rfl dX0_place_34 (by omega) (by omega) ?_
    refine ⟨?_, rfl, rfl⟩
    unfold v_place
    first | rw [if_neg (by omega)] | (rw [if_pos (by omega), q0, show b = 0 by omega]) | (rw [if_pos (by omega), q1, show b = 1 by omega])
  · skip
    have s1 := (hsg f (by omega) (by omega)).1
    have q0 := (hg0 f (by omega) (by omega)).1
    have q1 := (hg1 f (by omega) (by omega)).1
    refine x_iload_n dX0_place_8 rfl ?_
    refine x_if_eq (t := 19) dX0_place_9 (by decide) (by omega) (fun c_9 => ?_) (fun c_9 => ?_)
    · skip
      refine x_aload_n dX0_place_19 rfl ?_
      refine g_getR 9 (r := some 333) (ci := 1) (kf := 9) rfl (by decide) (by decide) rfl rfl q1317 rfl (hs.k 300 (by decide)) (hs.r 9 (by decide)) dX0_place_20 ?_
      refine x_aload_n dX0_place_23 rfl ?_
      refine g_getR 8 (r := some 332) (ci := 1) (kf := 8) rfl (by decide) (by decide) rfl rfl q1316 rfl (hs.k 300 (by decide)) (hs.r 8 (by decide)) dX0_place_24 ?_
      refine x_iload_n dX0_place_27 rfl ?_
      refine g_iald (hs.k 332 (by decide)) rfl (by omega) dX0_place_28 ?_
      rw [s1.1]
      refine g_iald (hs.k 333 (by decide)) rfl (by omega) dX0_place_29 ?_
      refine x_goto (t := 34) dX0_place_30 (by decide) ?_
      refine gp_iret rfl dX0_place_34 (by omega) (by omega) ?_
      refine ⟨?_, rfl, rfl⟩
      unfold v_place
      first | rw [if_neg (by omega)] | (rw [if_pos (by omega), q0, show b = 0 by omega]) | (rw [if_pos (by omega), q1, show b = 1 by omega])
    · skip
      refine x_aload_n dX0_place_12 rfl ?_
      refine g_getR 10 (r := some 334) (ci := 1) (kf := 10) rfl (by decide) (by decide) rfl rfl q1318 rfl (hs.k 300 (by decide)) (hs.r 10 (by decide)) dX0_place_13 ?_
      refine x_goto (t := 23) dX0_place_16 (by decide) ?_
      refine x_aload_n dX0_place_23 rfl ?_
      refine g_getR 8 (r := some 332) (ci := 1) (kf := 8) rfl (by decide) (by decide) rfl rfl q1316 rfl (hs.k 300 (by decide)) (hs.r 8 (by decide)) dX0_place_24 ?_
      refine x_iload_n dX0_place_27 rfl ?_
      refine g_iald (hs.k 332 (by decide)) rfl (by omega) dX0_place_28 ?_
      rw [s1.1]
      refine g_iald (hs.k 334 (by decide)) rfl (by omega) dX0_place_29 ?_
      refine x_goto (t := 34) dX0_place_30 (by decide) ?_
      refine gp_iret rfl dX0_place_34 (by omega) (by omega) ?_
      refine ⟨?_, rfl, rfl⟩
      unfold v_place
      first | rw [if_neg (by omega)] | (rw [if_pos (by omega), q0, show b = 0 by omega]) | (rw [if_pos (by omega), q1, show b = 1 by omega])
theorem jc_endQ (hs : Ss K N R) (hf : i32 f) (ht : 0 ≤ I 300 1 ∧ I 300 1 ≤ 300) : gP G yX0_end cX0_end 2 ((some FieldType.int)) 1 0 0 [vR (some 300), vI f] (K, N, I, R) nx (gIv K N R nx (fun v I2 => if 0 ≤ f ∧ f ≤ I 300 1 then v = vI f ∧ I2 = rr_u2 I 300 1 f else v = vI (-1) ∧ I2 = I)) := by
  have hf2 : -2147483648 ≤ f ∧ f < 2147483648 := hf
  refine gP.of (by decide) rfl (Nat.le_of_ble_eq_true rfl) ?_
  refine x_ls (ls2 := [some (vR (some 300)), some (vI f)]) rfl ?_
  refine x_iload_n dX0_end_0 rfl ?_
  refine x_i2l dX0_end_1 (by omega) ?_
  refine x_lconst (z := 0) dX0_end_2 (by decide) ?_
  refine x_aload_n dX0_end_3 rfl ?_
  refine g_getI 1 (ci := 1) (kf := 1) rfl (by decide) (by decide) rfl rfl q1306 rfl (hs.k 300 (by decide)) dX0_end_4 ?_
  refine x_i2l dX0_end_7 (by omega) ?_
  refine g_cs3 (xc_in (by omega) (by omega) (by omega) _ _ _) fX0_in q1288 (by decide) (Nat.le_of_ble_eq_true rfl) (by omega) (by omega) dX0_end_8 (fun v h2 n2 hp => ?_)
  obtain ⟨rfl, rfl, rfl⟩ := hp
  refine x_if_ne_b (t := 16) dX0_end_11 (by decide) (fun c_11 => ?_) (fun c_11 => ?_)
  · skip
    refine x_aload_n dX0_end_16 rfl ?_
    refine x_iload_n dX0_end_17 rfl ?_
    refine g_putI 1 (ci := 1) (kf := 1) rfl (by decide) (by decide) rfl rfl q1306 rfl (hs.k 300 (by decide)) (by decide) (Or.inl rfl) (rr_nar_i _) dX0_end_18 ?_
    refine x_iload_n dX0_end_21 rfl ?_
    refine gp_iret rfl dX0_end_22 (by omega) (by omega) ?_
    exact ⟨rfl, _, rfl, by dsimp only; rw [if_pos (by omega)]; exact ⟨rfl, rfl⟩⟩
  · skip
    refine x_iconst dX0_end_14 ?_
    refine gp_iret rfl dX0_end_15 (by omega) (by omega) ?_
    exact ⟨rfl, _, rfl, by dsimp only; rw [if_neg (by omega)]; exact ⟨rfl, rfl⟩⟩
end QU
