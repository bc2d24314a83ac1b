set_option maxRecDepth 100000
/-! THE MODEL's methods, 4: what is told, acts -/
/-- places lo .. k-1 of the array a are v's -/
def fl (I : Nat → Int → Int) (a : Nat) (lo k : Int) (v : Int → Int) : Nat → Int → Int := fun x j => if x = a ∧ lo ≤ j ∧ j < k then v j else I x j
theorem fl_0 (I : Nat → Int → Int) (a : Nat) {lo k : Int} (h : k ≤ lo) (v : Int → Int) : fl I a lo k v = I := by
  apply rr_u2_eq; intro x j; simp only [fl]; rw [if_neg (by omega)]
theorem fl_s (I : Nat → Int → Int) (a : Nat) {lo k w : Int} (h : lo ≤ k) (v : Int → Int) (hw : w = v k) : rr_u2 (fl I a lo k v) a k w = fl I a lo (k + 1) v := by
  subst hw; apply rr_u2_eq; intro x j; simp only [fl, rr_u2]; grind
theorem fl_o (I : Nat → Int → Int) (a : Nat) (lo k : Int) (v : Int → Int) {x : Nat} {j : Int} (h : ¬ (x = a ∧ lo ≤ j ∧ j < k)) : fl I a lo k v x j = I x j := by simp only [fl]; rw [if_neg h]
/-- what is told at the start -/
def tl0 (t : Int → Int) : Int → Int := fun j => if j = 0 then 2 else if j = 1 then 3 else if j = 2 then 2 else if 4 ≤ j ∧ j < 24 then -1 else if 0 ≤ j ∧ j < 460 then 0 else t j
def mClr (I : Nat → Int → Int) : Nat → Int → Int := fun x j => if x = 369 then tl0 (I 369) j else if x = 360 ∧ (j = 17 ∨ j = 45) then 0 else I x j
theorem c_clearsTold {I : Nat → Int → Int} : mC yX4_clearsTold cX4_clearsTold 2 none 0 [vR (some 360)] I none (mClr I) := by
  refine mC.of (by decide) rfl (Nat.le_of_ble_eq_true rfl) (fun G nx => ?_)
  refine x_ls (ls2 := [some (vR (some 360)), none]) rfl ?_
  refine x_iconst dX4_clearsTold_0 ?_
  refine x_istore_n dX4_clearsTold_1 (by decide) ?_
  refine x_h (h2 := mh (fl I 369 0 0 (fun _ => 0))) (by rw [fl_0 I 369 (Int.le_refl 0)]) ?_
  refine rr_ind (W := fun k => mm G yX4_clearsTold cX4_clearsTold 2 none 0 nx _ _ 2 [some (vR (some 360)), some (vI k)] [] (fl I 369 0 k (fun _ => 0))) (fun k => (460 - k).toNat) (fun k => 0 ≤ k ∧ k ≤ 460) ?_ 0 (by omega)
  intro k hk ih
  refine x_iload_n dX4_clearsTold_2 rfl ?_
  refine x_sipush dX4_clearsTold_3 (by decide) ?_
  refine x_icmp_ge (t := 22) dX4_clearsTold_6 (by decide) (by omega) (fun c_6 => ?_) (fun c_6 => ?_)
  · skip
    have hk2 : k = 460 := by omega
    subst hk2
    refine x_aload_n dX4_clearsTold_22 rfl ?_
    refine m_getA (kf := 15) 15 (a := 369) (by decide) rfl rfl q2130 rfl rfl dX4_clearsTold_23 ?_
    refine x_iconst dX4_clearsTold_26 ?_
    refine x_iconst dX4_clearsTold_27 ?_
    refine m_iast (n := 460) rfl rfl (by decide) (by omega) dX4_clearsTold_28 ?_
    refine x_aload_n dX4_clearsTold_29 rfl ?_
    refine m_getA (kf := 15) 15 (a := 369) (by decide) rfl rfl q2130 rfl rfl dX4_clearsTold_30 ?_
    refine x_iconst dX4_clearsTold_33 ?_
    refine x_iconst dX4_clearsTold_34 ?_
    refine m_iast (n := 460) rfl rfl (by decide) (by omega) dX4_clearsTold_35 ?_
    refine x_aload_n dX4_clearsTold_36 rfl ?_
    refine m_getA (kf := 15) 15 (a := 369) (by decide) rfl rfl q2130 rfl rfl dX4_clearsTold_37 ?_
    refine x_iconst dX4_clearsTold_40 ?_
    refine x_iconst dX4_clearsTold_41 ?_
    refine m_iast (n := 460) rfl rfl (by decide) (by omega) dX4_clearsTold_42 ?_
    refine x_iconst dX4_clearsTold_43 ?_
    refine x_istore_n dX4_clearsTold_44 (by decide) ?_
    generalize hJ : (rr_u2 (rr_u2 (rr_u2 (fl I 369 0 460 (fun _ => 0)) 369 0 2) 369 1 3) 369 2 2) = J
    refine x_h (h2 := mh (fl J 369 4 (4 + 0) (fun _ => -1))) (by rw [fl_0 J 369 (by omega)]) ?_
    refine rr_ind (W := fun q => mm G yX4_clearsTold cX4_clearsTold 2 none 0 nx _ _ 45 [some (vR (some 360)), some (vI q)] [] (fl J 369 4 (4 + q) (fun _ => -1))) (fun q => (20 - q).toNat) (fun q => 0 ≤ q ∧ q ≤ 20) ?_ 0 (by omega)
    intro q hq ih2
    refine x_iload_n dX4_clearsTold_45 rfl ?_
    refine x_bipush dX4_clearsTold_46 (by decide) ?_
    refine x_icmp_ge (t := 66) dX4_clearsTold_48 (by decide) (by omega) (fun c_48 => ?_) (fun c_48 => ?_)
    · skip
      have hq2 : q = 20 := by omega
      subst hq2
      refine x_aload_n dX4_clearsTold_66 rfl ?_
      refine x_iconst dX4_clearsTold_67 ?_
      refine m_putI (kf := 17) 17 (by decide) rfl rfl q2132 rfl rfl (rr_nar_i _) dX4_clearsTold_68 ?_
      refine x_aload_n dX4_clearsTold_71 rfl ?_
      refine x_iconst dX4_clearsTold_72 ?_
      refine m_putI (kf := 45) 45 (by decide) rfl rfl q2160 rfl rfl (rr_nar_z (by first | exact Or.inl rfl | exact Or.inr rfl | omega)) dX4_clearsTold_73 ?_
      refine x_vret rfl dX4_clearsTold_76 (Nat.le_refl _) (Nat.le_refl _) ?_
      refine ⟨rfl, mh_eq (fun x j => ?_), rfl⟩
      simp only [mClr, rr_u2, fl, ← hJ, tl0]
      grind (splits := 40)
    · skip
      refine x_aload_n dX4_clearsTold_51 rfl ?_
      refine m_getA (kf := 15) 15 (a := 369) (by decide) rfl rfl q2130 rfl rfl dX4_clearsTold_52 ?_
      refine x_iconst dX4_clearsTold_55 ?_
      refine x_iload_n dX4_clearsTold_56 rfl ?_
      refine x_iadd dX4_clearsTold_57 ?_
      refine x_iconst dX4_clearsTold_58 ?_
      refine m_iast (n := 460) rfl rfl (by decide) (by omega) dX4_clearsTold_59 ?_
      rw [fl_s J 369 (by omega) _ rfl, Int.add_assoc]
      refine x_iinc dX4_clearsTold_60 rfl (by decide) ?_
      refine x_goto (t := 45) dX4_clearsTold_63 (by decide) ?_
      exact ih2 (q + 1) (by omega) (by omega)
  · skip
    refine x_aload_n dX4_clearsTold_9 rfl ?_
    refine m_getA (kf := 15) 15 (a := 369) (by decide) rfl rfl q2130 rfl rfl dX4_clearsTold_10 ?_
    refine x_iload_n dX4_clearsTold_13 rfl ?_
    refine x_iconst dX4_clearsTold_14 ?_
    refine m_iast (n := 460) rfl rfl (by decide) (by omega) dX4_clearsTold_15 ?_
    rw [fl_s I 369 hk.1 _ rfl]
    refine x_iinc dX4_clearsTold_16 rfl (by decide) ?_
    refine x_goto (t := 2) dX4_clearsTold_19 (by decide) ?_
    exact ih (k + 1) (by omega) (by omega)
/-- what is told is kept -/
def mRem (I : Nat → Int → Int) : Nat → Int → Int := fun x j =>
  if x = 370 then (if I 360 17 = 20 then (if 0 ≤ j ∧ j < 8740 then I 370 (j + 460) else if 8740 ≤ j ∧ j < 9200 then I 369 (j - 8740) else I 370 j)
    else if 460 * I 360 17 ≤ j ∧ j < 460 * I 360 17 + 460 then I 369 (j - 460 * I 360 17) else I 370 j)
  else if x = 360 ∧ j = 17 then (if I 360 17 = 20 then 20 else I 360 17 + 1) else if x = 360 ∧ j = 45 then 0 else I x j
theorem c_remembers2 {I : Nat → Int → Int} {G : rr_G} {nx m : Nat} {J : Nat → Int → Int} {z : Option rr_V} (hm : m < 20) (hI : I 360 17 = m)
    (hJ : ∀ x j, J x j = if x = 370 ∧ 460 * (m : Int) ≤ j ∧ j < 460 * m + 460 then I 369 (j - 460 * m) else if x = 360 ∧ j = 17 then (m : Int) + 1 else if x = 360 ∧ j = 45 then 0 else I x j) :
    rr_R G yX4_remembers cX4_remembers 2 none 0 0 0 (rr_N G 0 0 (fun r2 h2 n2 => r2 = none ∧ h2 = mh J ∧ n2 = nx)) 52 [some (vR (some 360)), z] [] (mh I) nx 0 0 := by
  refine x_iconst dX4_remembers_52 ?_
  refine x_istore_n dX4_remembers_53 (by decide) ?_
  refine x_h (h2 := mh (fl I 370 (460 * (m : Int)) (460 * m + 0) (fun j => I 369 (j - 460 * m)))) (by rw [fl_0 I 370 (by omega)]) ?_
  refine rr_ind (W := fun k => mm G yX4_remembers cX4_remembers 2 none 0 nx _ _ 54 [some (vR (some 360)), some (vI k)] [] (fl I 370 (460 * (m : Int)) (460 * m + k) (fun j => I 369 (j - 460 * m)))) (fun k => (460 - k).toNat) (fun k => 0 ≤ k ∧ k ≤ 460) ?_ 0 (by omega)
  intro k hk ih
  have e1 : ∀ w, fl I 370 (460 * (m : Int)) w (fun j => I 369 (j - 460 * m)) 360 17 = m := fun w => by rw [fl_o _ _ _ _ _ (by omega), hI]
  refine x_iload_n dX4_remembers_54 rfl ?_
  refine x_sipush dX4_remembers_55 (by decide) ?_
  refine x_icmp_ge (t := 88) dX4_remembers_58 (by decide) (by omega) (fun c_58 => ?_) (fun c_58 => ?_)
  · skip
    have hk2 : k = 460 := by omega
    subst hk2
    refine x_aload_n dX4_remembers_88 rfl ?_
    refine x_dup dX4_remembers_89 rfl ?_
    refine m_getI (kf := 17) 17 (by decide) rfl rfl q2132 rfl dX4_remembers_90 ?_
    rw [e1]
    refine x_iconst dX4_remembers_93 ?_
    refine x_iadd dX4_remembers_94 ?_
    refine m_putI (kf := 17) 17 (by decide) rfl rfl q2132 rfl rfl (rr_nar_i _) dX4_remembers_95 ?_
    refine x_aload_n dX4_remembers_98 rfl ?_
    refine x_iconst dX4_remembers_99 ?_
    refine m_putI (kf := 45) 45 (by decide) rfl rfl q2160 rfl rfl (rr_nar_z (by first | exact Or.inl rfl | exact Or.inr rfl | omega)) dX4_remembers_100 ?_
    refine x_vret rfl dX4_remembers_103 (Nat.le_refl _) (Nat.le_refl _) ?_
    refine ⟨rfl, mh_eq (fun x j => ?_), rfl⟩
    rw [hJ x j]
    simp only [rr_u2, fl]
    grind
  · skip
    refine x_aload_n dX4_remembers_61 rfl ?_
    refine m_getA (kf := 16) 16 (a := 370) (by decide) rfl rfl q2131 rfl rfl dX4_remembers_62 ?_
    refine x_sipush dX4_remembers_65 (by decide) ?_
    refine x_aload_n dX4_remembers_68 rfl ?_
    refine m_getI (kf := 17) 17 (by decide) rfl rfl q2132 rfl dX4_remembers_69 ?_
    rw [e1]
    refine x_imul dX4_remembers_72 ?_
    refine x_iload_n dX4_remembers_73 rfl ?_
    refine x_iadd dX4_remembers_74 ?_
    refine x_aload_n dX4_remembers_75 rfl ?_
    refine m_getA (kf := 15) 15 (a := 369) (by decide) rfl rfl q2130 rfl rfl dX4_remembers_76 ?_
    refine x_iload_n dX4_remembers_79 rfl ?_
    refine m_iald (n := 460) rfl rfl (by decide) (by omega) dX4_remembers_80 ?_
    rw [fl_o _ _ _ _ _ (by omega)]
    refine m_iast (n := 9200) rfl rfl (by decide) (by omega) dX4_remembers_81 ?_
    rw [fl_s I 370 (by omega) _ (by congr 1; omega), Int.add_assoc]
    refine x_iinc dX4_remembers_82 rfl (by decide) ?_
    refine x_goto (t := 54) dX4_remembers_85 (by decide) ?_
    exact ih (k + 1) (by omega) (by omega)
theorem c_remembers {I : Nat → Int → Int} (h : 0 ≤ I 360 17 ∧ I 360 17 ≤ 20) : mC yX4_remembers cX4_remembers 2 none 0 [vR (some 360)] I none (mRem I) := by
  refine mC.of (by decide) rfl (Nat.le_of_ble_eq_true rfl) (fun G nx => ?_)
  refine x_ls (ls2 := [some (vR (some 360)), none]) rfl ?_
  refine x_aload_n dX4_remembers_0 rfl ?_
  refine m_getI (kf := 17) 17 (by decide) rfl rfl q2132 rfl dX4_remembers_1 ?_
  refine x_bipush dX4_remembers_4 (by decide) ?_
  refine x_icmp_ne (t := 52) dX4_remembers_6 (by decide) (by omega) (fun c_6 => ?_) (fun c_6 => ?_)
  · skip
    obtain ⟨m, hm⟩ : ∃ m : Nat, I 360 17 = m := ⟨(I 360 17).toNat, by omega⟩
    refine c_remembers2 (m := m) (by omega) hm (fun x j => ?_)
    simp only [mRem]
    grind
  · skip
    refine x_sipush dX4_remembers_9 (by decide) ?_
    refine x_istore_n dX4_remembers_12 (by decide) ?_
    refine x_h (h2 := mh (fl I 370 0 (460 - 460) (fun j => I 370 (j + 460)))) (by rw [fl_0 I 370 (by omega)]) ?_
    refine rr_ind (W := fun k => mm G yX4_remembers cX4_remembers 2 none 0 nx _ _ 13 [some (vR (some 360)), some (vI k)] [] (fl I 370 0 (k - 460) (fun j => I 370 (j + 460)))) (fun k => (9200 - k).toNat) (fun k => 460 ≤ k ∧ k ≤ 9200) ?_ 460 (by omega)
    intro k hk ih
    refine x_iload_n dX4_remembers_13 rfl ?_
    refine x_sipush dX4_remembers_14 (by decide) ?_
    refine x_icmp_ge (t := 42) dX4_remembers_17 (by decide) (by omega) (fun c_17 => ?_) (fun c_17 => ?_)
    · skip
      have hk2 : k = 9200 := by omega
      subst hk2
      refine x_aload_n dX4_remembers_42 rfl ?_
      refine x_dup dX4_remembers_43 rfl ?_
      refine m_getI (kf := 17) 17 (by decide) rfl rfl q2132 rfl dX4_remembers_44 ?_
      rw [fl_o _ _ _ _ _ (by omega)]
      refine x_iconst dX4_remembers_47 ?_
      refine x_isub dX4_remembers_48 ?_
      refine m_putI (kf := 17) 17 (by decide) rfl rfl q2132 rfl rfl (rr_nar_i _) dX4_remembers_49 ?_
      rw [c_6]
      refine c_remembers2 (m := 19) (by omega) (by simp [rr_u2]) (fun x j => ?_)
      simp only [mRem, rr_u2, fl, c_6]
      grind
    · skip
      refine x_aload_n dX4_remembers_20 rfl ?_
      refine m_getA (kf := 16) 16 (a := 370) (by decide) rfl rfl q2131 rfl rfl dX4_remembers_21 ?_
      refine x_iload_n dX4_remembers_24 rfl ?_
      refine x_sipush dX4_remembers_25 (by decide) ?_
      refine x_isub dX4_remembers_28 ?_
      refine x_aload_n dX4_remembers_29 rfl ?_
      refine m_getA (kf := 16) 16 (a := 370) (by decide) rfl rfl q2131 rfl rfl dX4_remembers_30 ?_
      refine x_iload_n dX4_remembers_33 rfl ?_
      refine m_iald (n := 9200) rfl rfl (by decide) (by omega) dX4_remembers_34 ?_
      rw [fl_o _ _ _ _ _ (by omega)]
      refine m_iast (n := 9200) rfl rfl (by decide) (by omega) dX4_remembers_35 ?_
      rw [fl_s I 370 (by omega) _ (by congr 1; omega), show k - 460 + 1 = k + 1 - 460 by omega]
      refine x_iinc dX4_remembers_36 rfl (by decide) ?_
      refine x_goto (t := 13) dX4_remembers_39 (by decide) ?_
      exact ih (k + 1) (by omega) (by omega)
def mUndo (I : Nat → Int → Int) : Nat → Int → Int := fun x j => if x = 369 ∧ 0 ≤ j ∧ j < 460 then I 370 (460 * (I 360 17 - 1) + j) else if x = 360 ∧ j = 17 then I 360 17 - 1 else if x = 360 ∧ j = 45 then 0 else I x j
theorem c_undo {I : Nat → Int → Int} (h : 0 ≤ I 360 17 ∧ I 360 17 ≤ 20) : mC yX4_undo cX4_undo 2 (some FieldType.int) 0 [vR (some 360)] I (some (vI (I 360 17 - 1))) (if I 360 17 = 0 then I else mUndo I) := by
  refine mC.of (by decide) rfl (Nat.le_of_ble_eq_true rfl) (fun G nx => ?_)
  refine x_ls (ls2 := [some (vR (some 360)), none]) rfl ?_
  refine x_aload_n dX4_undo_0 rfl ?_
  refine m_getI (kf := 17) 17 (by decide) rfl rfl q2132 rfl dX4_undo_1 ?_
  refine x_if_ne (t := 9) dX4_undo_4 (by decide) (by omega) (fun c_4 => ?_) (fun c_4 => ?_)
  · skip
    rw [if_neg c_4]
    refine x_aload_n dX4_undo_9 rfl ?_
    refine x_dup dX4_undo_10 rfl ?_
    refine m_getI (kf := 17) 17 (by decide) rfl rfl q2132 rfl dX4_undo_11 ?_
    refine x_iconst dX4_undo_14 ?_
    refine x_isub dX4_undo_15 ?_
    refine m_putI (kf := 17) 17 (by decide) rfl rfl q2132 rfl rfl (rr_nar_i _) dX4_undo_16 ?_
    refine x_iconst dX4_undo_19 ?_
    refine x_istore_n dX4_undo_20 (by decide) ?_
    generalize hJ : rr_u2 I 360 17 (I 360 17 - 1) = J
    have e1 : J 360 17 = I 360 17 - 1 := by rw [← hJ]; simp [rr_u2]
    have e2 : ∀ j, J 370 j = I 370 j := by intro j; rw [← hJ]; simp [rr_u2]
    refine x_h (h2 := mh (fl J 369 0 0 (fun j => I 370 (460 * (I 360 17 - 1) + j)))) (by rw [fl_0 J 369 (by omega)]) ?_
    refine rr_ind (W := fun k => mm G yX4_undo cX4_undo 2 (some FieldType.int) 0 nx _ _ 21 [some (vR (some 360)), some (vI k)] [] (fl J 369 0 k (fun j => I 370 (460 * (I 360 17 - 1) + j)))) (fun k => (460 - k).toNat) (fun k => 0 ≤ k ∧ k ≤ 460) ?_ 0 (by omega)
    intro k hk ih
    refine x_iload_n dX4_undo_21 rfl ?_
    refine x_sipush dX4_undo_22 (by decide) ?_
    refine x_icmp_ge (t := 55) dX4_undo_25 (by decide) (by omega) (fun c_25 => ?_) (fun c_25 => ?_)
    · skip
      have hk2 : k = 460 := by omega
      subst hk2
      refine x_aload_n dX4_undo_55 rfl ?_
      refine x_iconst dX4_undo_56 ?_
      refine m_putI (kf := 45) 45 (by decide) rfl rfl q2160 rfl rfl (rr_nar_z (by first | exact Or.inl rfl | exact Or.inr rfl | omega)) dX4_undo_57 ?_
      refine x_aload_n dX4_undo_60 rfl ?_
      refine m_getI (kf := 17) 17 (by decide) rfl rfl q2132 rfl dX4_undo_61 ?_
      rw [rr_u2_ne _ _ (by omega), fl_o _ _ _ _ _ (by omega), e1]
      refine x_iret rfl dX4_undo_64 (Nat.le_refl _) (Nat.le_refl _) ?_
      refine ⟨rfl, mh_eq (fun x j => ?_), rfl⟩
      simp only [mUndo, rr_u2, fl, ← hJ]
      grind
    · skip
      refine x_aload_n dX4_undo_28 rfl ?_
      refine m_getA (kf := 15) 15 (a := 369) (by decide) rfl rfl q2130 rfl rfl dX4_undo_29 ?_
      refine x_iload_n dX4_undo_32 rfl ?_
      refine x_aload_n dX4_undo_33 rfl ?_
      refine m_getA (kf := 16) 16 (a := 370) (by decide) rfl rfl q2131 rfl rfl dX4_undo_34 ?_
      refine x_sipush dX4_undo_37 (by decide) ?_
      refine x_aload_n dX4_undo_40 rfl ?_
      refine m_getI (kf := 17) 17 (by decide) rfl rfl q2132 rfl dX4_undo_41 ?_
      rw [fl_o _ _ _ _ _ (by omega), e1]
      refine x_imul dX4_undo_44 ?_
      refine x_iload_n dX4_undo_45 rfl ?_
      refine x_iadd dX4_undo_46 ?_
      refine m_iald (n := 9200) rfl rfl (by decide) (by omega) dX4_undo_47 ?_
      rw [fl_o _ _ _ _ _ (by omega), e2]
      refine m_iast (n := 460) rfl rfl (by decide) (by omega) dX4_undo_48 ?_
      rw [fl_s J 369 (by omega) _ rfl]
      refine x_iinc dX4_undo_49 rfl (by decide) ?_
      refine x_goto (t := 21) dX4_undo_52 (by decide) ?_
      exact ih (k + 1) (by omega) (by omega)
  · skip
    rw [if_pos c_4, c_4]
    refine x_iconst dX4_undo_7 ?_
    refine x_iret rfl dX4_undo_8 (Nat.le_refl _) (Nat.le_refl _) ?_
    exact ⟨rfl, rfl, rfl⟩
/-- a number that is told changes -/
def mChg (I : Nat → Int → Int) (w v : Int) : Nat → Int → Int := rr_u2 (mRem I) 369 w v
theorem mRem_t (I : Nat → Int → Int) (j : Int) : mRem I 369 j = I 369 j := by simp [mRem]
theorem c_changes {I : Nat → Int → Int} {w v lo hi : Int} (hw : 0 ≤ w ∧ w < 4) (hv : -2147483648 ≤ v ∧ v < 2147483648) (hl : 0 ≤ lo ∧ lo < 100) (hh : 0 ≤ hi ∧ hi < 100) (h : 0 ≤ I 360 17 ∧ I 360 17 ≤ 20) (ht : 0 ≤ I 369 w ∧ I 369 w < 100) : mC yX4_changes cX4_changes 6 (some FieldType.int) 1 [vR (some 360), vI w, vI v, vI lo, vI hi] I (some (vI (if (lo ≤ v ∧ v ≤ hi) ∧ I 369 w ≠ v then I 369 w else -1))) (if (lo ≤ v ∧ v ≤ hi) ∧ I 369 w ≠ v then mChg I w v else I) := by
  refine mC.of (by decide) rfl (Nat.le_of_ble_eq_true rfl) (fun G nx => ?_)
  refine x_ls (ls2 := [some (vR (some 360)), some (vI w), some (vI v), some (vI lo), some (vI hi), none]) rfl ?_
  refine x_iload_n dX4_changes_0 rfl ?_
  refine x_iload_n dX4_changes_1 rfl ?_
  refine x_iload dX4_changes_2 rfl ?_
  refine m_cs3 (c_in (by omega) (by omega) (by omega)) fX4_in q2299 (by decide) (Nat.le_of_ble_eq_true rfl) dX4_changes_4 ?_
  refine x_if_eq_b (t := 20) dX4_changes_7 (by decide) (fun c_7 => ?_) (fun c_7 => ?_)
  · skip
    rw [if_neg (by omega), if_neg (by omega)]
    refine x_iconst dX4_changes_20 ?_
    refine x_iret rfl dX4_changes_21 (Nat.le_refl _) (Nat.le_refl _) ?_
    exact ⟨rfl, rfl, rfl⟩
  · skip
    refine x_aload_n dX4_changes_10 rfl ?_
    refine m_getA (kf := 15) 15 (a := 369) (by decide) rfl rfl q2130 rfl rfl dX4_changes_11 ?_
    refine x_iload_n dX4_changes_14 rfl ?_
    refine m_iald (n := 460) rfl rfl (by decide) (by omega) dX4_changes_15 ?_
    refine x_iload_n dX4_changes_16 rfl ?_
    refine x_icmp_ne (t := 22) dX4_changes_17 (by decide) (by omega) (fun c_17 => ?_) (fun c_17 => ?_)
    · skip
      rw [if_pos (by omega), if_pos (by omega)]
      refine x_aload_n dX4_changes_22 rfl ?_
      refine m_cw0 (c_remembers (by assumption)) fX4_remembers q2362 (by decide) (Nat.le_of_ble_eq_true rfl) dX4_changes_23 ?_
      refine x_aload_n dX4_changes_26 rfl ?_
      refine m_getA (kf := 15) 15 (a := 369) (by decide) rfl rfl q2130 rfl rfl dX4_changes_27 ?_
      refine x_iload_n dX4_changes_30 rfl ?_
      refine m_iald (n := 460) rfl rfl (by decide) (by omega) dX4_changes_31 ?_
      rw [mRem_t]
      refine x_istore dX4_changes_32 (by decide) ?_
      refine x_aload_n dX4_changes_34 rfl ?_
      refine m_getA (kf := 15) 15 (a := 369) (by decide) rfl rfl q2130 rfl rfl dX4_changes_35 ?_
      refine x_iload_n dX4_changes_38 rfl ?_
      refine x_iload_n dX4_changes_39 rfl ?_
      refine m_iast (n := 460) rfl rfl (by decide) (by omega) dX4_changes_40 ?_
      refine x_iload dX4_changes_41 rfl ?_
      refine x_iret rfl dX4_changes_43 (Nat.le_refl _) (Nat.le_refl _) ?_
      exact ⟨rfl, rfl, rfl⟩
    · skip
      rw [if_neg (by omega), if_neg (by omega)]
      refine x_iconst dX4_changes_20 ?_
      refine x_iret rfl dX4_changes_21 (Nat.le_refl _) (Nat.le_refl _) ?_
      exact ⟨rfl, rfl, rfl⟩
theorem c_loose {I : Nat → Int → Int} {v : Int} (hv : -2147483648 ≤ v ∧ v < 2147483648) (h : 0 ≤ I 360 17 ∧ I 360 17 ≤ 20) (ht : 0 ≤ I 369 0 ∧ I 369 0 < 100) : mC yX4_loose cX4_loose 2 (some FieldType.int) 2 [vR (some 360), vI v] I (some (vI (if (0 ≤ v ∧ v ≤ 25) ∧ I 369 0 ≠ v then I 369 0 else -1))) (if (0 ≤ v ∧ v ≤ 25) ∧ I 369 0 ≠ v then mChg I 0 v else I) := by
  refine mC.of (by decide) rfl (Nat.le_of_ble_eq_true rfl) (fun G nx => ?_)
  refine x_ls (ls2 := [some (vR (some 360)), some (vI v)]) rfl ?_
  refine x_aload_n dX4_loose_0 rfl ?_
  refine x_iconst dX4_loose_1 ?_
  refine x_iload_n dX4_loose_2 rfl ?_
  refine x_iconst dX4_loose_3 ?_
  refine x_bipush dX4_loose_4 (by decide) ?_
  refine m_cv4 (c_changes (by omega) (by omega) (by omega) (by omega) (by assumption) (by assumption)) fX4_changes q2358 (by decide) (Nat.le_of_ble_eq_true rfl) dX4_loose_6 ?_
  refine x_iret rfl dX4_loose_9 (Nat.le_refl _) (Nat.le_refl _) ?_
  exact ⟨rfl, rfl, rfl⟩
theorem c_way {I : Nat → Int → Int} {v : Int} (hv : -2147483648 ≤ v ∧ v < 2147483648) (h : 0 ≤ I 360 17 ∧ I 360 17 ≤ 20) (ht : 0 ≤ I 369 1 ∧ I 369 1 < 100) : mC yX4_way cX4_way 2 (some FieldType.int) 2 [vR (some 360), vI v] I (some (vI (if (0 ≤ v ∧ v ≤ 3) ∧ I 369 1 ≠ v then I 369 1 else -1))) (if (0 ≤ v ∧ v ≤ 3) ∧ I 369 1 ≠ v then mChg I 1 v else I) := by
  refine mC.of (by decide) rfl (Nat.le_of_ble_eq_true rfl) (fun G nx => ?_)
  refine x_ls (ls2 := [some (vR (some 360)), some (vI v)]) rfl ?_
  refine x_aload_n dX4_way_0 rfl ?_
  refine x_iconst dX4_way_1 ?_
  refine x_iload_n dX4_way_2 rfl ?_
  refine x_iconst dX4_way_3 ?_
  refine x_iconst dX4_way_4 ?_
  refine m_cv4 (c_changes (by omega) (by omega) (by omega) (by omega) (by assumption) (by assumption)) fX4_changes q2358 (by decide) (Nat.le_of_ble_eq_true rfl) dX4_way_5 ?_
  refine x_iret rfl dX4_way_8 (Nat.le_refl _) (Nat.le_refl _) ?_
  exact ⟨rfl, rfl, rfl⟩
theorem c_rise {I : Nat → Int → Int} {v : Int} (hv : -2147483648 ≤ v ∧ v < 2147483648) (h : 0 ≤ I 360 17 ∧ I 360 17 ≤ 20) (ht : 0 ≤ I 369 2 ∧ I 369 2 < 100) : mC yX4_rise cX4_rise 2 (some FieldType.int) 2 [vR (some 360), vI v] I (some (vI (if (1 ≤ v ∧ v ≤ 9) ∧ I 369 2 ≠ v then I 369 2 else -1))) (if (1 ≤ v ∧ v ≤ 9) ∧ I 369 2 ≠ v then mChg I 2 v else I) := by
  refine mC.of (by decide) rfl (Nat.le_of_ble_eq_true rfl) (fun G nx => ?_)
  refine x_ls (ls2 := [some (vR (some 360)), some (vI v)]) rfl ?_
  refine x_aload_n dX4_rise_0 rfl ?_
  refine x_iconst dX4_rise_1 ?_
  refine x_iload_n dX4_rise_2 rfl ?_
  refine x_iconst dX4_rise_3 ?_
  refine x_bipush dX4_rise_4 (by decide) ?_
  refine m_cv4 (c_changes (by omega) (by omega) (by omega) (by omega) (by assumption) (by assumption)) fX4_changes q2358 (by decide) (Nat.le_of_ble_eq_true rfl) dX4_rise_6 ?_
  refine x_iret rfl dX4_rise_9 (Nat.le_refl _) (Nat.le_refl _) ?_
  exact ⟨rfl, rfl, rfl⟩
theorem c_isForm {I : Nat → Int → Int} {f : Int} (hf : -2147483648 ≤ f ∧ f < 2147483648) (h : 0 ≤ I 360 4 ∧ I 360 4 ≤ 20) : mC yX4_isForm cX4_isForm 2 (some FieldType.boolean) 1 [vR (some 360), vI f] I (some (vI (bi (0 ≤ f ∧ f < I 360 4)))) I := by
  have : (bi (0 ≤ f ∧ f < I 360 4)) = bi (0 ≤ f ∧ f ≤ I 360 4 - 1) := by
    by_cases q : 0 ≤ f ∧ f < I 360 4
    · rw [bi_t q, bi_t (by omega)]
    · rw [bi_f q, bi_f (by omega)]
  rw [this]
  refine mC.of (by decide) rfl (Nat.le_of_ble_eq_true rfl) (fun G nx => ?_)
  refine x_ls (ls2 := [some (vR (some 360)), some (vI f)]) rfl ?_
  refine x_iload_n dX4_isForm_0 rfl ?_
  refine x_iconst dX4_isForm_1 ?_
  refine x_aload_n dX4_isForm_2 rfl ?_
  refine m_getI (kf := 4) 4 (by decide) rfl rfl q2119 rfl dX4_isForm_3 ?_
  refine x_iconst dX4_isForm_6 ?_
  refine x_isub dX4_isForm_7 ?_
  refine m_cs3 (c_in (by omega) (by omega) (by omega)) fX4_in q2299 (by decide) (Nat.le_of_ble_eq_true rfl) dX4_isForm_8 ?_
  refine x_zret rfl dX4_isForm_11 (by first | exact Or.inl rfl | exact Or.inr rfl | exact bi_01 _ | omega) (Nat.le_refl _) (Nat.le_refl _) ?_
  exact ⟨by first | rfl | exact rT (by omega) | exact rF (by omega), rfl, rfl⟩
def twoAt (a b : Int) : Int := 24 + 20 * min a b + max a b
theorem c_twoAt {I : Nat → Int → Int} {a b : Int} (ha : 0 ≤ a ∧ a < 20) (hb : 0 ≤ b ∧ b < 20) : mC yX4_twoAt cX4_twoAt 2 (some FieldType.int) 1 [vI a, vI b] I (some (vI (twoAt a b))) I := by
  refine mC.of (by decide) rfl (Nat.le_of_ble_eq_true rfl) (fun G nx => ?_)
  refine x_ls (ls2 := [some (vI a), some (vI b)]) rfl ?_
  refine x_bipush dX4_twoAt_0 (by decide) ?_
  refine x_bipush dX4_twoAt_2 (by decide) ?_
  refine x_iload_n dX4_twoAt_4 rfl ?_
  refine x_iload_n dX4_twoAt_5 rfl ?_
  refine x_mmin (by omega) q2306 (by decide) (Nat.le_of_ble_eq_true rfl) dX4_twoAt_6 ?_
  refine x_imul dX4_twoAt_9 ?_
  refine x_iadd dX4_twoAt_10 ?_
  refine x_iload_n dX4_twoAt_11 rfl ?_
  refine x_iload_n dX4_twoAt_12 rfl ?_
  refine x_mmax (by omega) q2389 (by decide) (Nat.le_of_ble_eq_true rfl) dX4_twoAt_13 ?_
  refine x_iadd dX4_twoAt_16 ?_
  refine x_iret rfl dX4_twoAt_17 (Nat.le_refl _) (Nat.le_refl _) ?_
  exact ⟨rfl, rfl, rfl⟩
theorem twoAt_in {a b : Int} (ha : 0 ≤ a ∧ a < 20) (hb : 0 ≤ b ∧ b < 20) : 24 ≤ twoAt a b ∧ twoAt a b < 424 := by unfold twoAt; omega
/-- two forms may be told so -/
def canTell (I : Nat → Int → Int) (a b kind : Int) (is : Prop) : Prop := (0 ≤ a ∧ a < I 360 4) ∧ (0 ≤ b ∧ b < I 360 4) ∧ a ≠ b ∧ ¬ (I 369 (twoAt a b) = kind ↔ is)
theorem c_tellsTwo {I : Nat → Int → Int} {a b kind : Int} {is : Prop} (ha : -2147483648 ≤ a ∧ a < 2147483648) (hb : -2147483648 ≤ b ∧ b < 2147483648) (hk : 0 ≤ kind ∧ kind < 3) (hf : 0 ≤ I 360 4 ∧ I 360 4 ≤ 20) (h : 0 ≤ I 360 17 ∧ I 360 17 ≤ 20) (ht : ∀ j, 24 ≤ j → j < 424 → 0 ≤ I 369 j ∧ I 369 j < 3) : mC yX4_tellsTwo cX4_tellsTwo 5 (some FieldType.boolean) 2 [vR (some 360), vI a, vI b, vI kind, vI (bi is)] I (some (vI (bi (canTell I a b kind is)))) (@ite _ (canTell I a b kind is) (Classical.propDecidable _) (mChg I (twoAt a b) (kind * bi is)) I) := by
  refine mC.of (by decide) rfl (Nat.le_of_ble_eq_true rfl) (fun G nx => ?_)
  refine x_ls (ls2 := [some (vR (some 360)), some (vI a), some (vI b), some (vI kind), some (vI (bi is))]) rfl ?_
  have hz := bi_01 is
  refine x_aload_n dX4_tellsTwo_0 rfl ?_
  refine x_iload_n dX4_tellsTwo_1 rfl ?_
  refine m_cv1 (c_isForm (by omega) (by assumption)) fX4_isForm q2382 (by decide) (Nat.le_of_ble_eq_true rfl) dX4_tellsTwo_2 ?_
  refine x_if_eq_b (t := 45) dX4_tellsTwo_5 (by decide) (fun c_5 => ?_) (fun c_5 => ?_)
  · skip
    rw [@if_neg _ (Classical.propDecidable _) (fun q => c_5 q.1)]
    have hno : ¬ canTell I a b kind is := fun q => c_5 q.1
    refine x_iconst dX4_tellsTwo_45 ?_
    refine x_zret rfl dX4_tellsTwo_46 (by first | exact Or.inl rfl | exact Or.inr rfl | exact bi_01 _ | omega) (Nat.le_refl _) (Nat.le_refl _) ?_
    exact ⟨rF hno, rfl, rfl⟩
  · skip
    refine x_aload_n dX4_tellsTwo_8 rfl ?_
    refine x_iload_n dX4_tellsTwo_9 rfl ?_
    refine m_cv1 (c_isForm (by omega) (by assumption)) fX4_isForm q2382 (by decide) (Nat.le_of_ble_eq_true rfl) dX4_tellsTwo_10 ?_
    refine x_if_eq_b (t := 45) dX4_tellsTwo_13 (by decide) (fun c_13 => ?_) (fun c_13 => ?_)
    · skip
      rw [@if_neg _ (Classical.propDecidable _) (fun q => c_13 q.2.1)]
      have hno : ¬ canTell I a b kind is := fun q => c_13 q.2.1
      refine x_iconst dX4_tellsTwo_45 ?_
      refine x_zret rfl dX4_tellsTwo_46 (by first | exact Or.inl rfl | exact Or.inr rfl | exact bi_01 _ | omega) (Nat.le_refl _) (Nat.le_refl _) ?_
      exact ⟨rF hno, rfl, rfl⟩
    · skip
      refine x_iload_n dX4_tellsTwo_16 rfl ?_
      refine x_iload_n dX4_tellsTwo_17 rfl ?_
      refine x_icmp_eq (t := 45) dX4_tellsTwo_18 (by decide) (by omega) (fun c_18 => ?_) (fun c_18 => ?_)
      · skip
        rw [@if_neg _ (Classical.propDecidable _) (fun q => q.2.2.1 c_18)]
        have hno : ¬ canTell I a b kind is := fun q => q.2.2.1 c_18
        refine x_iconst dX4_tellsTwo_45 ?_
        refine x_zret rfl dX4_tellsTwo_46 (by first | exact Or.inl rfl | exact Or.inr rfl | exact bi_01 _ | omega) (Nat.le_refl _) (Nat.le_refl _) ?_
        exact ⟨rF hno, rfl, rfl⟩
      · skip
        have ht2 := twoAt_in (a := a) (b := b) (by omega) (by omega)
        have ht3 := ht _ ht2.1 ht2.2
        refine x_aload_n dX4_tellsTwo_21 rfl ?_
        refine m_getA (kf := 15) 15 (a := 369) (by decide) rfl rfl q2130 rfl rfl dX4_tellsTwo_22 ?_
        refine x_iload_n dX4_tellsTwo_25 rfl ?_
        refine x_iload_n dX4_tellsTwo_26 rfl ?_
        refine m_cs2 (c_twoAt (by omega) (by omega)) fX4_twoAt q2386 (by decide) (Nat.le_of_ble_eq_true rfl) dX4_tellsTwo_27 ?_
        refine m_iald (n := 460) rfl rfl (by decide) (by omega) dX4_tellsTwo_30 ?_
        refine x_iload_n dX4_tellsTwo_31 rfl ?_
        refine x_icmp_ne (t := 39) dX4_tellsTwo_32 (by decide) (by omega) (fun c_32 => ?_) (fun c_32 => ?_)
        · skip
          refine x_iconst dX4_tellsTwo_39 ?_
          refine x_iload dX4_tellsTwo_40 rfl ?_
          refine x_icmp_ne (t := 47) dX4_tellsTwo_42 (by decide) (by omega) (fun c_42 => ?_) (fun c_42 => ?_)
          · skip
            have hyes : canTell I a b kind is := ⟨c_5, c_13, c_18, fun q => by
              by_cases hi : is
              · have := bi_t hi; have := q.mpr hi; omega
              · have := bi_f hi; have : ¬ I 369 (twoAt a b) = kind := fun w => hi (q.mp w); omega⟩
            rw [@if_pos _ (Classical.propDecidable _) hyes]
            refine x_aload_n dX4_tellsTwo_47 rfl ?_
            refine m_cw0 (c_remembers (by assumption)) fX4_remembers q2362 (by decide) (Nat.le_of_ble_eq_true rfl) dX4_tellsTwo_48 ?_
            refine x_aload_n dX4_tellsTwo_51 rfl ?_
            refine m_getA (kf := 15) 15 (a := 369) (by decide) rfl rfl q2130 rfl rfl dX4_tellsTwo_52 ?_
            refine x_iload_n dX4_tellsTwo_55 rfl ?_
            refine x_iload_n dX4_tellsTwo_56 rfl ?_
            refine m_cs2 (c_twoAt (by omega) (by omega)) fX4_twoAt q2386 (by decide) (Nat.le_of_ble_eq_true rfl) dX4_tellsTwo_57 ?_
            refine x_iload dX4_tellsTwo_60 rfl ?_
            refine x_if_eq (t := 69) dX4_tellsTwo_62 (by decide) (by omega) (fun c_62 => ?_) (fun c_62 => ?_)
            · skip
              rw [c_62]
              refine x_iconst dX4_tellsTwo_69 ?_
              refine m_iast (n := 460) rfl rfl (by decide) (by omega) dX4_tellsTwo_70 ?_
              refine x_iconst dX4_tellsTwo_71 ?_
              refine x_zret rfl dX4_tellsTwo_72 (by first | exact Or.inl rfl | exact Or.inr rfl | exact bi_01 _ | omega) (Nat.le_refl _) (Nat.le_refl _) ?_
              exact ⟨rT hyes, by unfold mChg; congr 3; omega, rfl⟩
            · skip
              rw [show bi is = 1 by omega]
              refine x_iload_n dX4_tellsTwo_65 rfl ?_
              refine x_goto (t := 70) dX4_tellsTwo_66 (by decide) ?_
              refine m_iast (n := 460) rfl rfl (by decide) (by omega) dX4_tellsTwo_70 ?_
              refine x_iconst dX4_tellsTwo_71 ?_
              refine x_zret rfl dX4_tellsTwo_72 (by first | exact Or.inl rfl | exact Or.inr rfl | exact bi_01 _ | omega) (Nat.le_refl _) (Nat.le_refl _) ?_
              exact ⟨rT hyes, by unfold mChg; congr 3; omega, rfl⟩
          · skip
            have hno : ¬ canTell I a b kind is := fun q => q.2.2.2 (by
              by_cases hi : is
              · have := bi_t hi; first | exact ⟨fun _ => hi, fun _ => by omega⟩ | (constructor <;> intro w <;> first | exact hi | omega)
              · have := bi_f hi; constructor <;> intro w <;> first | exact absurd w hi | omega)
            rw [@if_neg _ (Classical.propDecidable _) hno]
            refine x_iconst dX4_tellsTwo_45 ?_
            refine x_zret rfl dX4_tellsTwo_46 (by first | exact Or.inl rfl | exact Or.inr rfl | exact bi_01 _ | omega) (Nat.le_refl _) (Nat.le_refl _) ?_
            exact ⟨rF hno, rfl, rfl⟩
        · skip
          refine x_iconst dX4_tellsTwo_35 ?_
          refine x_goto (t := 40) dX4_tellsTwo_36 (by decide) ?_
          refine x_iload dX4_tellsTwo_40 rfl ?_
          refine x_icmp_ne (t := 47) dX4_tellsTwo_42 (by decide) (by omega) (fun c_42 => ?_) (fun c_42 => ?_)
          · skip
            have hyes : canTell I a b kind is := ⟨c_5, c_13, c_18, fun q => by
              by_cases hi : is
              · have := bi_t hi; have := q.mpr hi; omega
              · have := bi_f hi; have : ¬ I 369 (twoAt a b) = kind := fun w => hi (q.mp w); omega⟩
            rw [@if_pos _ (Classical.propDecidable _) hyes]
            refine x_aload_n dX4_tellsTwo_47 rfl ?_
            refine m_cw0 (c_remembers (by assumption)) fX4_remembers q2362 (by decide) (Nat.le_of_ble_eq_true rfl) dX4_tellsTwo_48 ?_
            refine x_aload_n dX4_tellsTwo_51 rfl ?_
            refine m_getA (kf := 15) 15 (a := 369) (by decide) rfl rfl q2130 rfl rfl dX4_tellsTwo_52 ?_
            refine x_iload_n dX4_tellsTwo_55 rfl ?_
            refine x_iload_n dX4_tellsTwo_56 rfl ?_
            refine m_cs2 (c_twoAt (by omega) (by omega)) fX4_twoAt q2386 (by decide) (Nat.le_of_ble_eq_true rfl) dX4_tellsTwo_57 ?_
            refine x_iload dX4_tellsTwo_60 rfl ?_
            refine x_if_eq (t := 69) dX4_tellsTwo_62 (by decide) (by omega) (fun c_62 => ?_) (fun c_62 => ?_)
            · skip
              rw [c_62]
              refine x_iconst dX4_tellsTwo_69 ?_
              refine m_iast (n := 460) rfl rfl (by decide) (by omega) dX4_tellsTwo_70 ?_
              refine x_iconst dX4_tellsTwo_71 ?_
              refine x_zret rfl dX4_tellsTwo_72 (by first | exact Or.inl rfl | exact Or.inr rfl | exact bi_01 _ | omega) (Nat.le_refl _) (Nat.le_refl _) ?_
              exact ⟨rT hyes, by unfold mChg; congr 3; omega, rfl⟩
            · skip
              rw [show bi is = 1 by omega]
              refine x_iload_n dX4_tellsTwo_65 rfl ?_
              refine x_goto (t := 70) dX4_tellsTwo_66 (by decide) ?_
              refine m_iast (n := 460) rfl rfl (by decide) (by omega) dX4_tellsTwo_70 ?_
              refine x_iconst dX4_tellsTwo_71 ?_
              refine x_zret rfl dX4_tellsTwo_72 (by first | exact Or.inl rfl | exact Or.inr rfl | exact bi_01 _ | omega) (Nat.le_refl _) (Nat.le_refl _) ?_
              exact ⟨rT hyes, by unfold mChg; congr 3; omega, rfl⟩
          · skip
            have hno : ¬ canTell I a b kind is := fun q => q.2.2.2 (by
              by_cases hi : is
              · have := bi_t hi; first | exact ⟨fun _ => hi, fun _ => by omega⟩ | (constructor <;> intro w <;> first | exact hi | omega)
              · have := bi_f hi; constructor <;> intro w <;> first | exact absurd w hi | omega)
            rw [@if_neg _ (Classical.propDecidable _) hno]
            refine x_iconst dX4_tellsTwo_45 ?_
            refine x_zret rfl dX4_tellsTwo_46 (by first | exact Or.inl rfl | exact Or.inr rfl | exact bi_01 _ | omega) (Nat.le_refl _) (Nat.le_refl _) ?_
            exact ⟨rF hno, rfl, rfl⟩
theorem c_alike {I : Nat → Int → Int} {a b : Int} {is : Prop} (ha : -2147483648 ≤ a ∧ a < 2147483648) (hb : -2147483648 ≤ b ∧ b < 2147483648) (hf : 0 ≤ I 360 4 ∧ I 360 4 ≤ 20) (h : 0 ≤ I 360 17 ∧ I 360 17 ≤ 20) (ht : ∀ j, 24 ≤ j → j < 424 → 0 ≤ I 369 j ∧ I 369 j < 3) : mC yX4_alike cX4_alike 4 (some FieldType.boolean) 3 [vR (some 360), vI a, vI b, vI (bi is)] I (some (vI (bi (canTell I a b 1 is)))) (@ite _ (canTell I a b 1 is) (Classical.propDecidable _) (mChg I (twoAt a b) (1 * bi is)) I) := by
  refine mC.of (by decide) rfl (Nat.le_of_ble_eq_true rfl) (fun G nx => ?_)
  refine x_ls (ls2 := [some (vR (some 360)), some (vI a), some (vI b), some (vI (bi is))]) rfl ?_
  refine x_aload_n dX4_alike_0 rfl ?_
  refine x_iload_n dX4_alike_1 rfl ?_
  refine x_iload_n dX4_alike_2 rfl ?_
  refine x_iconst dX4_alike_3 ?_
  refine x_iload_n dX4_alike_4 rfl ?_
  refine m_cv4 (c_tellsTwo (by omega) (by omega) (by omega) (by assumption) (by assumption) (by assumption)) fX4_tellsTwo q2378 (by decide) (Nat.le_of_ble_eq_true rfl) dX4_alike_5 ?_
  refine x_zret rfl dX4_alike_8 (by first | exact Or.inl rfl | exact Or.inr rfl | exact bi_01 _ | omega) (Nat.le_refl _) (Nat.le_refl _) ?_
  exact ⟨by first | rfl | exact rT (by omega) | exact rF (by omega), rfl, rfl⟩
theorem c_apart {I : Nat → Int → Int} {a b : Int} {is : Prop} (ha : -2147483648 ≤ a ∧ a < 2147483648) (hb : -2147483648 ≤ b ∧ b < 2147483648) (hf : 0 ≤ I 360 4 ∧ I 360 4 ≤ 20) (h : 0 ≤ I 360 17 ∧ I 360 17 ≤ 20) (ht : ∀ j, 24 ≤ j → j < 424 → 0 ≤ I 369 j ∧ I 369 j < 3) : mC yX4_apart cX4_apart 4 (some FieldType.boolean) 3 [vR (some 360), vI a, vI b, vI (bi is)] I (some (vI (bi (canTell I a b 2 is)))) (@ite _ (canTell I a b 2 is) (Classical.propDecidable _) (mChg I (twoAt a b) (2 * bi is)) I) := by
  refine mC.of (by decide) rfl (Nat.le_of_ble_eq_true rfl) (fun G nx => ?_)
  refine x_ls (ls2 := [some (vR (some 360)), some (vI a), some (vI b), some (vI (bi is))]) rfl ?_
  refine x_aload_n dX4_apart_0 rfl ?_
  refine x_iload_n dX4_apart_1 rfl ?_
  refine x_iload_n dX4_apart_2 rfl ?_
  refine x_iconst dX4_apart_3 ?_
  refine x_iload_n dX4_apart_4 rfl ?_
  refine m_cv4 (c_tellsTwo (by omega) (by omega) (by omega) (by assumption) (by assumption) (by assumption)) fX4_tellsTwo q2378 (by decide) (Nat.le_of_ble_eq_true rfl) dX4_apart_5 ?_
  refine x_zret rfl dX4_apart_8 (by first | exact Or.inl rfl | exact Or.inr rfl | exact bi_01 _ | omega) (Nat.le_refl _) (Nat.le_refl _) ?_
  exact ⟨by first | rfl | exact rT (by omega) | exact rF (by omega), rfl, rfl⟩
