set_option maxRecDepth 100000
/-! THE MODEL's methods, 16: what is asked of signs, grid, guesses -/
def LdS (I : Nat → Int → Int) : Prop := I 360 45 = 0 ∨ (I 360 45 = 1 ∧ Laid I)
def MI (I : Nat → Int → Int) : Prop := LyOK I ∧ LdS I
abbrev QA : List Nat := [371, 372, 373, 374, 375, 376, 377, 378, 379, 380, 381, 382, 383, 384, 385, 386, 387, 388, 389, 390]
abbrev QF : List Int := [19, 23, 25, 26, 32, 40, 45]
def Keep (I I' : Nat → Int → Int) : Prop := eqx I I' QA QF ∧ LdS I'
theorem Keep.rf {I : Nat → Int → Int} (h : LdS I) : Keep I I := ⟨eqx.rf _ _ _, h⟩
theorem LdPost.keep {I I' : Nat → Int → Int} (h : LdPost I I') : Keep I I' := ⟨h.1.mono (by decide) (by decide), Or.inr ⟨h.2.2, h.2.1⟩⟩
/-- what laying rests on, and lays -/
abbrev LA : List Nat := [362, 364, 365, 366, 369, 371, 373, 374, 376, 377, 378, 379, 380, 382, 383, 385]
abbrev LF : List Int := [4, 8, 19, 23, 25, 26]
theorem Laid_eqx {I J : Nat → Int → Int} {xs : List Nat} {fs : List Int} (h : Laid I) (he : eqx I J xs fs) (hx : ∀ x ∈ LA, x ∉ xs) (hf : ∀ f ∈ LF, f ∉ fs) : Laid J := by
  have a : ∀ x ∈ LA, J x = I x := fun x h1 => he.1 x (by revert h1; revert x; decide) (hx x h1)
  have b : ∀ f ∈ LF, J 360 f = I 360 f := fun f h1 => he.2 f (hf f h1)
  have hR : m_rows J = m_rows I := m_rows_eq (a 364 (by decide)) (a 365 (by decide)) (a 366 (by decide)) (a 369 (by decide)) (a 371 (by decide)) (b 8 (by decide))
  have hw : wsI J = wsI I := by unfold wsI; rw [hR, a 369 (by decide)]
  have hl : lxI J = lxI I := by unfold lxI; rw [hw]
  have hC : CL J (lxI J) = CL I (lxI I) := by rw [hl]; exact CL_eq _ (a 369 (by decide)) (a 371 (by decide))
  refine ⟨?_, ?_, ?_, ?_, ?_, ?_, ?_, ?_, ?_, ?_, ?_⟩
  · rw [a 371 (by decide), b 4 (by decide), lk_eq (a 362 (by decide)) (a 369 (by decide))]; exact h.sg
  · rw [a 371 (by decide), b 4 (by decide), b 19 (by decide)]; exact h.sm
  · exact SgOK_eqx h.so (a 371 (by decide)) (b 4 (by decide))
  · rw [hR]
    have := h.re
    unfold RE at *
    rw [a 373 (by decide), a 374 (by decide), b 23 (by decide)]
    exact this
  · rw [hl]
    have := h.we
    unfold WE enI at *
    rw [a 376 (by decide), a 377 (by decide), a 378 (by decide), b 25 (by decide)]
    exact this
  · rw [hw, b 26 (by decide)]; exact h.wm
  · rw [hw, a 379 (by decide), a 380 (by decide)]; exact h.ht
  · rw [hC]; exact CE_eqx h.ce (a 382 (by decide))
  · rw [hC]; exact GrFin_eqx h.g0 (a 371 (by decide)) (b 4 (by decide)) (fun f _ _ => by rw [a 383 (by decide)])
  · rw [hC]; exact GrFin_eqx h.g1 (a 371 (by decide)) (b 4 (by decide)) (fun f _ _ => by rw [a 383 (by decide)])
  · rw [a 385 (by decide), b 4 (by decide), knV_eq (a 369 (by decide)) (a 383 (by decide)) (b 4 (by decide))]; exact h.kn
abbrev QP (I : Nat → Int → Int) (v : (Nat → Int → Int) → Int) (z : Int) (I' : Nat → Int → Int) : Prop := Keep I I' ∧ z = v I'
abbrev i32 (z : Int) : Prop := -2147483648 ≤ z ∧ z < 2147483648
theorem bi_self {z : Int} (hz : z = 0 ∨ z = 1) : bi (z = 1) = z := by
  rcases hz with rfl | rfl
  · exact bi_f (by decide)
  · exact bi_t rfl
theorem c_truth01 {I : Nat → Int → Int} {z : Int} (hz : z = 0 ∨ z = 1) : mC yX4_truth cX4_truth 1 (some FieldType.int) 0 [vI z] I (some (vI z)) I := by
  have h := c_truth (I := I) (P := z = 1)
  rw [bi_self hz] at h
  exact h
def v_sign (f : Int) (J : Nat → Int → Int) : Int := if 0 ≤ f ∧ f < J 360 4 then J 371 f else -1
theorem c_sign2 {I : Nat → Int → Int} {f : Int} (hr : i32 f) (h : MI I) : mQ yX4_sign_2 cX4_sign_2 2 (some FieldType.int) 6 [vR (some 360), vI f] I (QP I (v_sign f)) := by
  have h4 := h.1.1.2.1
  refine mQ.of (by decide) rfl (Nat.le_of_ble_eq_true rfl) (fun G nx => ?_)
  refine x_ls (ls2 := [some (vR (some 360)), some (vI f)]) rfl ?_
  unfold v_sign
  refine x_aload_n dX4_sign_2_0 rfl ?_
  refine x_iload_n dX4_sign_2_1 rfl ?_
  refine m_cv1 (c_isForm (by omega) (by assumption)) fX4_isForm q2382 (by decide) (Nat.le_of_ble_eq_true rfl) dX4_sign_2_2 ?_
  refine x_if_ne_b (t := 10) dX4_sign_2_5 (by decide) (fun c_5 => ?_) (fun c_5 => ?_)
  · skip
    refine x_aload_n dX4_sign_2_10 rfl ?_
    refine m_ew0 (c_lays h.1 h.2) fX4_lays q2398 (by decide) (Nat.le_of_ble_eq_true rfl) dX4_sign_2_11 (fun I2 hI2 => ?_)
    have e4 := hI2.1.2 4 (by decide)
    refine x_aload_n dX4_sign_2_14 rfl ?_
    refine m_getA (kf := 18) 18 (a := 371) (by decide) rfl rfl q2133 rfl rfl dX4_sign_2_15 ?_
    refine x_iload_n dX4_sign_2_18 rfl ?_
    refine m_iald (n := 20) rfl rfl (by decide) (by omega) dX4_sign_2_19 ?_
    refine x_iret rfl dX4_sign_2_20 (Nat.le_refl _) (Nat.le_refl _) ?_
    exact ⟨_, rfl, rfl, _, rfl, hI2.keep, by dsimp only; rw [if_pos (by omega)]⟩
  · skip
    refine x_iconst dX4_sign_2_8 ?_
    refine x_iret rfl dX4_sign_2_9 (Nat.le_refl _) (Nat.le_refl _) ?_
    exact ⟨_, rfl, rfl, _, rfl, Keep.rf h.2, by dsimp only; rw [if_neg (by omega)]⟩
noncomputable def v_size (f : Int) (J : Nat → Int → Int) : Int := if 0 ≤ f ∧ f < J 360 4 then cnt (fun k => J 371 k = J 371 f) (J 360 4) else -1
theorem c_size {I : Nat → Int → Int} {f : Int} (hr : i32 f) (h : MI I) : mQ yX4_size cX4_size 4 (some FieldType.int) 6 [vR (some 360), vI f] I (QP I (v_size f)) := by
  have h4 := h.1.1.2.1
  refine mQ.of (by decide) rfl (Nat.le_of_ble_eq_true rfl) (fun G nx => ?_)
  refine x_ls (ls2 := [some (vR (some 360)), some (vI f), none, none]) rfl ?_
  unfold v_size
  refine x_aload_n dX4_size_0 rfl ?_
  refine x_iload_n dX4_size_1 rfl ?_
  refine m_cv1 (c_isForm (by omega) (by assumption)) fX4_isForm q2382 (by decide) (Nat.le_of_ble_eq_true rfl) dX4_size_2 ?_
  refine x_if_ne_b (t := 10) dX4_size_5 (by decide) (fun c_5 => ?_) (fun c_5 => ?_)
  · skip
    refine x_aload_n dX4_size_10 rfl ?_
    refine m_ew0 (c_lays h.1 h.2) fX4_lays q2398 (by decide) (Nat.le_of_ble_eq_true rfl) dX4_size_11 (fun I2 hI2 => ?_)
    have e4 := hI2.1.2 4 (by decide)
    refine x_iconst dX4_size_14 ?_
    refine x_istore_n dX4_size_15 (by decide) ?_
    refine x_iconst dX4_size_16 ?_
    refine x_istore_n dX4_size_17 (by decide) ?_
    have hK := hI2.keep
    have hs := hI2.2.1.so
    clear hI2
    generalize I2 = J at *
    have hsf := (hs f (by omega) (by omega)).1
    refine x_loc (ls2 := [some (vR (some 360)), some (vI f), some (vI (cnt (fun k => J 371 k = J 371 f) 0)), some (vI 0)]) (by rw [cnt_0]; exact (by repeat first | exact trivial | refine ⟨Or.inr rfl, ?_⟩ | refine ⟨Or.inl rfl, ?_⟩)) ?_
    refine rr_ind (W := fun k => mq G yX4_size cX4_size 4 (some FieldType.int) 6 nx _ 18 [some (vR (some 360)), some (vI f), some (vI (cnt (fun k => J 371 k = J 371 f) k)), some (vI k)] [] J) (fun k => (J 360 4 - k).toNat) (fun k => 0 ≤ k ∧ k ≤ J 360 4) ?_ 0 (by omega)
    intro k hk ih
    have hsk : k < J 360 4 → 0 ≤ J 371 k ∧ J 371 k ≤ k := fun q => (hs k hk.1 q).1
    have hup := cnt_up (fun k => J 371 k = J 371 f) hk.1
    refine x_iload_n dX4_size_18 rfl ?_
    refine x_aload_n dX4_size_19 rfl ?_
    refine m_getI (kf := 4) 4 (by decide) rfl rfl q2119 rfl dX4_size_20 ?_
    refine x_icmp_ge (t := 58) dX4_size_23 (by decide) (by omega) (fun c_23 => ?_) (fun c_23 => ?_)
    · skip
      refine x_iload_n dX4_size_58 rfl ?_
      refine x_iret rfl dX4_size_59 (Nat.le_refl _) (Nat.le_refl _) ?_
      exact ⟨_, rfl, rfl, _, rfl, hK, by dsimp only; rw [if_pos (by omega), show k = J 360 4 by omega]⟩
    · skip
      refine x_iload_n dX4_size_26 rfl ?_
      refine x_aload_n dX4_size_27 rfl ?_
      refine m_getA (kf := 18) 18 (a := 371) (by decide) rfl rfl q2133 rfl rfl dX4_size_28 ?_
      refine x_iload_n dX4_size_31 rfl ?_
      refine m_iald (n := 20) rfl rfl (by decide) (by omega) dX4_size_32 ?_
      refine x_aload_n dX4_size_33 rfl ?_
      refine m_getA (kf := 18) 18 (a := 371) (by decide) rfl rfl q2133 rfl rfl dX4_size_34 ?_
      refine x_iload_n dX4_size_37 rfl ?_
      refine m_iald (n := 20) rfl rfl (by decide) (by omega) dX4_size_38 ?_
      refine x_icmp_ne (t := 46) dX4_size_39 (by decide) (by have := hsk (by omega); omega) (fun c_39 => ?_) (fun c_39 => ?_)
      · skip
        refine x_iconst dX4_size_46 ?_
        refine x_top (bi (J 371 k = J 371 f)) (by first | exact (bi_t c_39).symm | exact (bi_f c_39).symm) ?_
        refine m_cs1 (c_truth) fX4_truth q2327 (by decide) (Nat.le_of_ble_eq_true rfl) dX4_size_47 ?_
        refine x_iadd dX4_size_50 ?_
        rw [← hup]
        refine x_istore_n dX4_size_51 (by decide) ?_
        refine x_iinc dX4_size_52 rfl (by decide) ?_
        refine x_goto (t := 18) dX4_size_55 (by decide) ?_
        exact ih (k + 1) (by omega) (by omega)
      · skip
        refine x_iconst dX4_size_42 ?_
        refine x_goto (t := 47) dX4_size_43 (by decide) ?_
        refine x_top (bi (J 371 k = J 371 f)) (by first | exact (bi_t c_39).symm | exact (bi_f c_39).symm) ?_
        refine m_cs1 (c_truth) fX4_truth q2327 (by decide) (Nat.le_of_ble_eq_true rfl) dX4_size_47 ?_
        refine x_iadd dX4_size_50 ?_
        rw [← hup]
        refine x_istore_n dX4_size_51 (by decide) ?_
        refine x_iinc dX4_size_52 rfl (by decide) ?_
        refine x_goto (t := 18) dX4_size_55 (by decide) ?_
        exact ih (k + 1) (by omega) (by omega)
  · skip
    refine x_iconst dX4_size_8 ?_
    refine x_iret rfl dX4_size_9 (Nat.le_refl _) (Nat.le_refl _) ?_
    exact ⟨_, rfl, rfl, _, rfl, Keep.rf h.2, by dsimp only; rw [if_neg (by omega)]⟩
def v_place (f b : Int) (J : Nat → Int → Int) : Int := if 0 ≤ f ∧ f < J 360 4 then J 383 (20 * b + f) else -1
theorem c_place {I : Nat → Int → Int} {f b : Int} (hr : i32 f) (hb : b = 0 ∨ b = 1) (h : MI I) : mQ yX4_place cX4_place 3 (some FieldType.int) 6 [vR (some 360), vI f, vI b] I (QP I (v_place f b)) := by
  have h4 := h.1.1.2.1
  refine mQ.of (by decide) rfl (Nat.le_of_ble_eq_true rfl) (fun G nx => ?_)
  refine x_ls (ls2 := [some (vR (some 360)), some (vI f), some (vI b)]) rfl ?_
  unfold v_place
  refine x_aload_n dX4_place_0 rfl ?_
  refine x_iload_n dX4_place_1 rfl ?_
  refine m_cv1 (c_isForm (by omega) (by assumption)) fX4_isForm q2382 (by decide) (Nat.le_of_ble_eq_true rfl) dX4_place_2 ?_
  refine x_if_ne_b (t := 10) dX4_place_5 (by decide) (fun c_5 => ?_) (fun c_5 => ?_)
  · skip
    refine x_aload_n dX4_place_10 rfl ?_
    refine m_ew0 (c_lays h.1 h.2) fX4_lays q2398 (by decide) (Nat.le_of_ble_eq_true rfl) dX4_place_11 (fun I2 hI2 => ?_)
    have e4 := hI2.1.2 4 (by decide)
    refine x_aload_n dX4_place_14 rfl ?_
    refine m_getA (kf := 35) 35 (a := 383) (by decide) rfl rfl q2150 rfl rfl dX4_place_15 ?_
    refine x_bipush dX4_place_18 (by decide) ?_
    refine x_iload_n dX4_place_20 rfl ?_
    refine m_cs1 (c_truth01 hb) fX4_truth q2327 (by decide) (Nat.le_of_ble_eq_true rfl) dX4_place_21 ?_
    refine x_imul dX4_place_24 ?_
    refine x_iload_n dX4_place_25 rfl ?_
    refine x_iadd dX4_place_26 ?_
    refine m_iald (n := 40) rfl rfl (by decide) (by omega) dX4_place_27 ?_
    refine x_iret rfl dX4_place_28 (Nat.le_refl _) (Nat.le_refl _) ?_
    exact ⟨_, rfl, rfl, _, rfl, hI2.keep, by dsimp only; rw [if_pos (by omega)]⟩
  · skip
    refine x_iconst dX4_place_8 ?_
    refine x_iret rfl dX4_place_9 (Nat.le_refl _) (Nat.le_refl _) ?_
    exact ⟨_, rfl, rfl, _, rfl, Keep.rf h.2, by dsimp only; rw [if_neg (by omega)]⟩
/-- pairs that P holds of -/
noncomputable def cnt2 (P : Int → Int → Prop) (n : Int) : Int := itr (fun a c => itr (fun b c => c + bi (P a b)) (a + 1) n c) 0 n 0
noncomputable def v_clues (k : Int) (J : Nat → Int → Int) : Int := cnt2 (fun a b => CL J (lxI J) k a b) (J 360 4)
theorem c_clues {I : Nat → Int → Int} {b : Int} (hb : b = 0 ∨ b = 1) (h : MI I) : mQ yX4_clues cX4_clues 5 (some FieldType.int) 6 [vR (some 360), vI b] I (QP I (v_clues b)) := by
  have h4 := h.1.1.2.1
  refine mQ.of (by decide) rfl (Nat.le_of_ble_eq_true rfl) (fun G nx => ?_)
  refine x_ls (ls2 := [some (vR (some 360)), some (vI b), none, none, none]) rfl ?_
  unfold v_clues cnt2
  refine x_aload_n dX4_clues_0 rfl ?_
  refine m_ew0 (c_lays h.1 h.2) fX4_lays q2398 (by decide) (Nat.le_of_ble_eq_true rfl) dX4_clues_1 (fun I2 hI2 => ?_)
  refine x_iconst dX4_clues_4 ?_
  refine x_istore_n dX4_clues_5 (by decide) ?_
  refine x_iconst dX4_clues_6 ?_
  refine x_istore_n dX4_clues_7 (by decide) ?_
  have e4 := hI2.1.2 4 (by decide)
  have hK := hI2.keep
  have hce := hI2.2.1.ce
  clear hI2
  generalize I2 = J at *
  refine rr_for (g := fun a c => itr (fun e c => c + bi (CL J (lxI J) b a e)) (a + 1) (J 360 4) c) (hi := J 360 4) (P := fun i _ => 0 ≤ i ∧ i ≤ J 360 4) (W := fun i a => mq G yX4_clues cX4_clues 5 (some FieldType.int) 6 nx _ 8 [some (vR (some 360)), some (vI b), some (vI a), some (vI i), none] [] J) ?_ ?_ 0 0 rfl (by omega)
  · intro i hi hp
    refine x_iload_n dX4_clues_8 rfl ?_
    refine x_aload_n dX4_clues_9 rfl ?_
    refine m_getI (kf := 4) 4 (by decide) rfl rfl q2119 rfl dX4_clues_10 ?_
    refine x_icmp_ge (t := 63) dX4_clues_13 (by decide) (by omega) (fun c_13 => ?_) (fun c_13 => absurd (by omega) c_13)
    refine x_iload_n dX4_clues_63 rfl ?_
    refine x_iret rfl dX4_clues_64 (Nat.le_refl _) (Nat.le_refl _) ?_
    exact ⟨_, rfl, rfl, _, rfl, hK, rfl⟩
  · intro a c ha hp ih
    refine x_iload_n dX4_clues_8 rfl ?_
    refine x_aload_n dX4_clues_9 rfl ?_
    refine m_getI (kf := 4) 4 (by decide) rfl rfl q2119 rfl dX4_clues_10 ?_
    refine x_icmp_ge (t := 63) dX4_clues_13 (by decide) (by omega) (fun c_13 => absurd c_13 (by omega)) (fun c_13 => ?_)
    refine x_iload_n dX4_clues_16 rfl ?_
    refine x_iconst dX4_clues_17 ?_
    refine x_iadd dX4_clues_18 ?_
    refine x_istore dX4_clues_19 (by decide) ?_
    refine rr_for (g := fun e c => c + bi (CL J (lxI J) b a e)) (hi := J 360 4) (P := fun i _ => 0 ≤ i ∧ i ≤ J 360 4) (W := fun i x => mq G yX4_clues cX4_clues 5 (some FieldType.int) 6 nx _ 21 [some (vR (some 360)), some (vI b), some (vI x), some (vI a), some (vI i)] [] J) ?_ ?_ (a + 1) c rfl (by omega)
    · intro i hi hp
      refine x_iload dX4_clues_21 rfl ?_
      refine x_aload_n dX4_clues_23 rfl ?_
      refine m_getI (kf := 4) 4 (by decide) rfl rfl q2119 rfl dX4_clues_24 ?_
      refine x_icmp_ge (t := 57) dX4_clues_27 (by decide) (by omega) (fun c_27 => ?_) (fun c_27 => absurd (by omega) c_27)
      refine x_iinc dX4_clues_57 rfl (by decide) ?_
      refine x_goto (t := 8) dX4_clues_60 (by decide) ?_
      exact x_loc (by repeat first | exact trivial | refine ⟨Or.inr rfl, ?_⟩ | refine ⟨Or.inl rfl, ?_⟩) (ih (by omega))
    · intro e c he hp2 ih2
      have hc := hce b a e hb (by omega) (by omega)
      have hin := clueAt_in hb (show 0 ≤ a ∧ a < 20 by omega) (show 0 ≤ e ∧ e < 20 by omega)
      refine x_iload dX4_clues_21 rfl ?_
      refine x_aload_n dX4_clues_23 rfl ?_
      refine m_getI (kf := 4) 4 (by decide) rfl rfl q2119 rfl dX4_clues_24 ?_
      refine x_icmp_ge (t := 57) dX4_clues_27 (by decide) (by omega) (fun c_27 => absurd c_27 (by omega)) (fun c_27 => ?_)
      refine x_iload_n dX4_clues_30 rfl ?_
      refine x_aload_n dX4_clues_31 rfl ?_
      refine m_getA (kf := 34) 34 (a := 382) (by decide) rfl rfl q2149 rfl rfl dX4_clues_32 ?_
      refine x_iload_n dX4_clues_35 rfl ?_
      refine m_cs1 (c_truth01 hb) fX4_truth q2327 (by decide) (Nat.le_of_ble_eq_true rfl) dX4_clues_36 ?_
      refine x_iload_n dX4_clues_39 rfl ?_
      refine x_iload dX4_clues_40 rfl ?_
      refine m_cs3 (c_clueAt) fX4_clueAt q2491 (by decide) (Nat.le_of_ble_eq_true rfl) dX4_clues_42 ?_
      refine m_zald (n := 800) rfl rfl (by decide) (by omega) dX4_clues_45 ?_
      rw [hc]
      refine m_cs1 (c_truth) fX4_truth q2327 (by decide) (Nat.le_of_ble_eq_true rfl) dX4_clues_46 ?_
      refine x_iadd dX4_clues_49 ?_
      refine x_istore_n dX4_clues_50 (by decide) ?_
      refine x_iinc dX4_clues_51 rfl (by decide) ?_
      refine x_goto (t := 21) dX4_clues_54 (by decide) ?_
      exact ih2 (by omega)
theorem c_isSign {I : Nat → Int → Int} {f : Int} (hf : 0 ≤ f ∧ f < 20) (hs : i32 (I 371 f)) : mC yX4_isSign cX4_isSign 2 (some FieldType.boolean) 0 [vR (some 360), vI f] I (some (vI (bi (I 371 f = f)))) I := by
  refine mC.of (by decide) rfl (Nat.le_of_ble_eq_true rfl) (fun G nx => ?_)
  refine x_ls (ls2 := [some (vR (some 360)), some (vI f)]) rfl ?_
  refine x_aload_n dX4_isSign_0 rfl ?_
  refine m_getA (kf := 18) 18 (a := 371) (by decide) rfl rfl q2133 rfl rfl dX4_isSign_1 ?_
  refine x_iload_n dX4_isSign_4 rfl ?_
  refine m_iald (n := 20) rfl rfl (by decide) (by omega) dX4_isSign_5 ?_
  refine x_iload_n dX4_isSign_6 rfl ?_
  refine x_icmp_ne (t := 14) dX4_isSign_7 (by decide) (by omega) (fun c_7 => ?_) (fun c_7 => ?_)
  · skip
    refine x_iconst dX4_isSign_14 ?_
    refine x_zret rfl dX4_isSign_15 (by first | exact Or.inl rfl | exact Or.inr rfl | exact bi_01 _ | omega) (Nat.le_refl _) (Nat.le_refl _) ?_
    exact ⟨by first | exact rT c_7 | exact rF c_7, rfl, rfl⟩
  · skip
    refine x_iconst dX4_isSign_10 ?_
    refine x_goto (t := 15) dX4_isSign_11 (by decide) ?_
    refine x_zret rfl dX4_isSign_15 (by first | exact Or.inl rfl | exact Or.inr rfl | exact bi_01 _ | omega) (Nat.le_refl _) (Nat.le_refl _) ?_
    exact ⟨by first | exact rT c_7 | exact rF c_7, rfl, rfl⟩
/-- signs that clash -/
def clsh (J : Nat → Int → Int) (a b : Int) : Prop := J 371 a = a ∧ J 371 b = b ∧ J 383 a = J 383 b ∧ J 383 (20 + a) = J 383 (20 + b)
theorem Laid.in {I : Nat → Int → Int} (h : Laid I) {f : Int} (hf : 0 ≤ f ∧ f < I 360 4) : (0 ≤ I 371 f ∧ I 371 f ≤ f) ∧ (0 ≤ I 383 f ∧ I 383 f ≤ f) ∧ (0 ≤ I 383 (20 + f) ∧ I 383 (20 + f) ≤ f) := by
  have h0 := (h.g0.1 f hf.1 hf.2).1
  have h1 := (h.g1.1 f hf.1 hf.2).1
  simp only [sh] at h0 h1
  rw [show 20 * 0 + f = f by omega] at h0
  rw [show 20 * 1 + f = 20 + f by omega] at h1
  exact ⟨(h.so f hf.1 hf.2).1, h0, h1⟩
theorem c_doClash {I : Nat → Int → Int} {a b : Int} (h4 : I 360 4 ≤ 20) (h : Laid I) (ha : 0 ≤ a ∧ a < I 360 4) (hb : 0 ≤ b ∧ b < I 360 4) : mC yX4_doClash cX4_doClash 3 (some FieldType.boolean) 1 [vR (some 360), vI a, vI b] I (some (vI (bi (clsh I a b)))) I := by
  have h1 := h.in ha
  have h2 := h.in hb
  refine mC.of (by decide) rfl (Nat.le_of_ble_eq_true rfl) (fun G nx => ?_)
  refine x_ls (ls2 := [some (vR (some 360)), some (vI a), some (vI b)]) rfl ?_
  refine x_aload_n dX4_doClash_0 rfl ?_
  refine x_iload_n dX4_doClash_1 rfl ?_
  refine m_cv1 (c_isSign (by omega) (by omega)) fX4_isSign q2517 (by decide) (Nat.le_of_ble_eq_true rfl) dX4_doClash_2 ?_
  refine x_if_eq_b (t := 56) dX4_doClash_5 (by decide) (fun c_5 => ?_) (fun c_5 => ?_)
  · skip
    refine x_iconst dX4_doClash_56 ?_
    refine x_zret rfl dX4_doClash_57 (by first | exact Or.inl rfl | exact Or.inr rfl | exact bi_01 _ | omega) (Nat.le_refl _) (Nat.le_refl _) ?_
    exact ⟨by first | exact rT (by unfold clsh; omega) | exact rF (by unfold clsh; omega), rfl, rfl⟩
  · skip
    refine x_aload_n dX4_doClash_8 rfl ?_
    refine x_iload_n dX4_doClash_9 rfl ?_
    refine m_cv1 (c_isSign (by omega) (by omega)) fX4_isSign q2517 (by decide) (Nat.le_of_ble_eq_true rfl) dX4_doClash_10 ?_
    refine x_if_eq_b (t := 56) dX4_doClash_13 (by decide) (fun c_13 => ?_) (fun c_13 => ?_)
    · skip
      refine x_iconst dX4_doClash_56 ?_
      refine x_zret rfl dX4_doClash_57 (by first | exact Or.inl rfl | exact Or.inr rfl | exact bi_01 _ | omega) (Nat.le_refl _) (Nat.le_refl _) ?_
      exact ⟨by first | exact rT (by unfold clsh; omega) | exact rF (by unfold clsh; omega), rfl, rfl⟩
    · skip
      refine x_aload_n dX4_doClash_16 rfl ?_
      refine m_getA (kf := 35) 35 (a := 383) (by decide) rfl rfl q2150 rfl rfl dX4_doClash_17 ?_
      refine x_iload_n dX4_doClash_20 rfl ?_
      refine m_iald (n := 40) rfl rfl (by decide) (by omega) dX4_doClash_21 ?_
      refine x_aload_n dX4_doClash_22 rfl ?_
      refine m_getA (kf := 35) 35 (a := 383) (by decide) rfl rfl q2150 rfl rfl dX4_doClash_23 ?_
      refine x_iload_n dX4_doClash_26 rfl ?_
      refine m_iald (n := 40) rfl rfl (by decide) (by omega) dX4_doClash_27 ?_
      refine x_icmp_ne (t := 56) dX4_doClash_28 (by decide) (by omega) (fun c_28 => ?_) (fun c_28 => ?_)
      · skip
        refine x_iconst dX4_doClash_56 ?_
        refine x_zret rfl dX4_doClash_57 (by first | exact Or.inl rfl | exact Or.inr rfl | exact bi_01 _ | omega) (Nat.le_refl _) (Nat.le_refl _) ?_
        exact ⟨by first | exact rT (by unfold clsh; omega) | exact rF (by unfold clsh; omega), rfl, rfl⟩
      · skip
        refine x_aload_n dX4_doClash_31 rfl ?_
        refine m_getA (kf := 35) 35 (a := 383) (by decide) rfl rfl q2150 rfl rfl dX4_doClash_32 ?_
        refine x_bipush dX4_doClash_35 (by decide) ?_
        refine x_iload_n dX4_doClash_37 rfl ?_
        refine x_iadd dX4_doClash_38 ?_
        refine m_iald (n := 40) rfl rfl (by decide) (by omega) dX4_doClash_39 ?_
        refine x_aload_n dX4_doClash_40 rfl ?_
        refine m_getA (kf := 35) 35 (a := 383) (by decide) rfl rfl q2150 rfl rfl dX4_doClash_41 ?_
        refine x_bipush dX4_doClash_44 (by decide) ?_
        refine x_iload_n dX4_doClash_46 rfl ?_
        refine x_iadd dX4_doClash_47 ?_
        refine m_iald (n := 40) rfl rfl (by decide) (by omega) dX4_doClash_48 ?_
        refine x_icmp_ne (t := 56) dX4_doClash_49 (by decide) (by omega) (fun c_49 => ?_) (fun c_49 => ?_)
        · skip
          refine x_iconst dX4_doClash_56 ?_
          refine x_zret rfl dX4_doClash_57 (by first | exact Or.inl rfl | exact Or.inr rfl | exact bi_01 _ | omega) (Nat.le_refl _) (Nat.le_refl _) ?_
          exact ⟨by first | exact rT (by unfold clsh; omega) | exact rF (by unfold clsh; omega), rfl, rfl⟩
        · skip
          refine x_iconst dX4_doClash_52 ?_
          refine x_goto (t := 57) dX4_doClash_53 (by decide) ?_
          refine x_zret rfl dX4_doClash_57 (by first | exact Or.inl rfl | exact Or.inr rfl | exact bi_01 _ | omega) (Nat.le_refl _) (Nat.le_refl _) ?_
          exact ⟨by first | exact rT (by unfold clsh; omega) | exact rF (by unfold clsh; omega), rfl, rfl⟩
noncomputable def v_clashes (J : Nat → Int → Int) : Int := cnt2 (clsh J) (J 360 4)
theorem c_clashes {I : Nat → Int → Int} (h : MI I) : mQ yX4_clashes cX4_clashes 4 (some FieldType.int) 6 [vR (some 360)] I (QP I v_clashes) := by
  have h4 := h.1.1.2.1
  refine mQ.of (by decide) rfl (Nat.le_of_ble_eq_true rfl) (fun G nx => ?_)
  refine x_ls (ls2 := [some (vR (some 360)), none, none, none]) rfl ?_
  unfold v_clashes cnt2
  refine x_aload_n dX4_clashes_0 rfl ?_
  refine m_ew0 (c_lays h.1 h.2) fX4_lays q2398 (by decide) (Nat.le_of_ble_eq_true rfl) dX4_clashes_1 (fun I2 hI2 => ?_)
  refine x_iconst dX4_clashes_4 ?_
  refine x_istore_n dX4_clashes_5 (by decide) ?_
  refine x_iconst dX4_clashes_6 ?_
  refine x_istore_n dX4_clashes_7 (by decide) ?_
  have e4 := hI2.1.2 4 (by decide)
  have hK := hI2.keep
  have hLd := hI2.2.1
  clear hI2
  generalize I2 = J at *
  refine rr_for (g := fun a c => itr (fun e c => c + bi (clsh J a e)) (a + 1) (J 360 4) c) (hi := J 360 4) (P := fun i _ => 0 ≤ i ∧ i ≤ J 360 4) (W := fun i a => mq G yX4_clashes cX4_clashes 4 (some FieldType.int) 6 nx _ 8 [some (vR (some 360)), some (vI a), some (vI i), none] [] J) ?_ ?_ 0 0 rfl (by omega)
  · intro i hi hp
    refine x_iload_n dX4_clashes_8 rfl ?_
    refine x_aload_n dX4_clashes_9 rfl ?_
    refine m_getI (kf := 4) 4 (by decide) rfl rfl q2119 rfl dX4_clashes_10 ?_
    refine x_icmp_ge (t := 52) dX4_clashes_13 (by decide) (by omega) (fun c_13 => ?_) (fun c_13 => absurd (by omega) c_13)
    refine x_iload_n dX4_clashes_52 rfl ?_
    refine x_iret rfl dX4_clashes_53 (Nat.le_refl _) (Nat.le_refl _) ?_
    exact ⟨_, rfl, rfl, _, rfl, hK, rfl⟩
  · intro a c ha hp ih
    refine x_iload_n dX4_clashes_8 rfl ?_
    refine x_aload_n dX4_clashes_9 rfl ?_
    refine m_getI (kf := 4) 4 (by decide) rfl rfl q2119 rfl dX4_clashes_10 ?_
    refine x_icmp_ge (t := 52) dX4_clashes_13 (by decide) (by omega) (fun c_13 => absurd c_13 (by omega)) (fun c_13 => ?_)
    refine x_iload_n dX4_clashes_16 rfl ?_
    refine x_iconst dX4_clashes_17 ?_
    refine x_iadd dX4_clashes_18 ?_
    refine x_istore_n dX4_clashes_19 (by decide) ?_
    refine rr_for (g := fun e c => c + bi (clsh J a e)) (hi := J 360 4) (P := fun i _ => 0 ≤ i ∧ i ≤ J 360 4) (W := fun i x => mq G yX4_clashes cX4_clashes 4 (some FieldType.int) 6 nx _ 20 [some (vR (some 360)), some (vI x), some (vI a), some (vI i)] [] J) ?_ ?_ (a + 1) c rfl (by omega)
    · intro i hi hp
      refine x_iload_n dX4_clashes_20 rfl ?_
      refine x_aload_n dX4_clashes_21 rfl ?_
      refine m_getI (kf := 4) 4 (by decide) rfl rfl q2119 rfl dX4_clashes_22 ?_
      refine x_icmp_ge (t := 46) dX4_clashes_25 (by decide) (by omega) (fun c_25 => ?_) (fun c_25 => absurd (by omega) c_25)
      refine x_iinc dX4_clashes_46 rfl (by decide) ?_
      refine x_goto (t := 8) dX4_clashes_49 (by decide) ?_
      exact x_loc (by repeat first | exact trivial | refine ⟨Or.inr rfl, ?_⟩ | refine ⟨Or.inl rfl, ?_⟩) (ih (by omega))
    · intro e c he hp2 ih2
      refine x_iload_n dX4_clashes_20 rfl ?_
      refine x_aload_n dX4_clashes_21 rfl ?_
      refine m_getI (kf := 4) 4 (by decide) rfl rfl q2119 rfl dX4_clashes_22 ?_
      refine x_icmp_ge (t := 46) dX4_clashes_25 (by decide) (by omega) (fun c_25 => absurd c_25 (by omega)) (fun c_25 => ?_)
      refine x_iload_n dX4_clashes_28 rfl ?_
      refine x_aload_n dX4_clashes_29 rfl ?_
      refine x_iload_n dX4_clashes_30 rfl ?_
      refine x_iload_n dX4_clashes_31 rfl ?_
      refine m_cv2 (c_doClash (by omega) hLd (by omega) (by omega)) fX4_doClash q2630 (by decide) (Nat.le_of_ble_eq_true rfl) dX4_clashes_32 ?_
      refine m_cs1 (c_truth) fX4_truth q2327 (by decide) (Nat.le_of_ble_eq_true rfl) dX4_clashes_35 ?_
      refine x_iadd dX4_clashes_38 ?_
      refine x_istore_n dX4_clashes_39 (by decide) ?_
      refine x_iinc dX4_clashes_40 rfl (by decide) ?_
      refine x_goto (t := 20) dX4_clashes_43 (by decide) ?_
      exact ih2 (by omega)
