set_option maxRecDepth 100000
/-! THE MODEL's methods, 26: clues and guesses told -/
def clTold (I : Nat → Int → Int) (a b w : Int) : Prop := ∃ m, (0 ≤ m ∧ m < I 369 3) ∧ ((I 369 (424 + 3 * m) = a ∧ I 369 (424 + 3 * m + 1) = b) ∨ (I 369 (424 + 3 * m) = b ∧ I 369 (424 + 3 * m + 1) = a)) ∧ I 369 (424 + 3 * m + 2) = w
theorem c_isClueTold {I : Nat → Int → Int} {a b w : Int} (h4 : 0 ≤ I 360 4 ∧ I 360 4 ≤ 20) (hcl : ClOK I) (ha : 0 ≤ a ∧ a < 20) (hb : 0 ≤ b ∧ b < 20) (hw : w = 0 ∨ w = 1) : mC yX4_isClueTold cX4_isClueTold 7 (some FieldType.boolean) 1 [vR (some 360), vI a, vI b, vI w] I (some (vI (bi (clTold I a b w)))) I := by
  have h12 := hcl.1
  refine mC.of (by decide) rfl (Nat.le_of_ble_eq_true rfl) (fun G nx => ?_)
  refine x_ls (ls2 := [some (vR (some 360)), some (vI a), some (vI b), some (vI w), none, none, none]) rfl ?_
  refine x_iconst dX4_isClueTold_0 ?_
  refine x_istore dX4_isClueTold_1 (by decide) ?_
  refine rr_ind (W := fun m => mm G yX4_isClueTold cX4_isClueTold 7 (some FieldType.boolean) 1 nx _ _ 3 [some (vR (some 360)), some (vI a), some (vI b), some (vI w), some (vI m), none, none] [] I) (fun m => (I 369 3 - m).toNat) (fun m => (0 ≤ m ∧ m ≤ I 369 3) ∧ ∀ k, 0 ≤ k → k < m → ¬ (((I 369 (424 + 3 * k) = a ∧ I 369 (424 + 3 * k + 1) = b) ∨ (I 369 (424 + 3 * k) = b ∧ I 369 (424 + 3 * k + 1) = a)) ∧ I 369 (424 + 3 * k + 2) = w)) ?_ 0 ⟨by omega, fun k h1 h2 => by omega⟩
  rintro m ⟨hm, hno⟩ ih
  have hmm := fun q => hcl.2 m hm.1 q
  have hgo : m < I 369 3 → ¬ (((I 369 (424 + 3 * m) = a ∧ I 369 (424 + 3 * m + 1) = b) ∨ (I 369 (424 + 3 * m) = b ∧ I 369 (424 + 3 * m + 1) = a)) ∧ I 369 (424 + 3 * m + 2) = w) → mm G yX4_isClueTold cX4_isClueTold 7 (some FieldType.boolean) 1 nx _ _ 3 [some (vR (some 360)), some (vI a), some (vI b), some (vI w), some (vI (m + 1)), none, none] [] I := fun q z => ih (m + 1) ⟨by omega, fun k h1 h2 => by
    by_cases e : k = m
    · rw [e]; exact z
    · exact hno k h1 (by omega)⟩ (by omega)
  have hb01 := bi_01 ((I 369 (424 + 3 * m) = a ∧ I 369 (424 + 3 * m + 1) = b) ∨ (I 369 (424 + 3 * m) = b ∧ I 369 (424 + 3 * m + 1) = a))
  refine x_iload dX4_isClueTold_3 rfl ?_
  refine x_aload_n dX4_isClueTold_5 rfl ?_
  refine m_getA (kf := 15) 15 (a := 369) (by decide) rfl rfl q2130 rfl rfl dX4_isClueTold_6 ?_
  refine x_iconst dX4_isClueTold_9 ?_
  refine m_iald (n := 460) rfl rfl (by decide) (by omega) dX4_isClueTold_10 ?_
  refine x_icmp_ge (t := 108) dX4_isClueTold_11 (by decide) (by omega) (fun c_11 => ?_) (fun c_11 => ?_)
  · skip
    refine x_iconst dX4_isClueTold_108 ?_
    refine x_zret rfl dX4_isClueTold_109 (by first | exact Or.inl rfl | exact Or.inr rfl | exact bi_01 _ | omega) (Nat.le_refl _) (Nat.le_refl _) ?_
    exact ⟨rF (fun ⟨k, k1, k2⟩ => hno k k1.1 (by omega) k2), rfl, rfl⟩
  · skip
    have hmm := hmm (by omega)
    refine x_sipush dX4_isClueTold_14 (by decide) ?_
    refine x_iconst dX4_isClueTold_17 ?_
    refine x_iload dX4_isClueTold_18 rfl ?_
    refine x_imul dX4_isClueTold_20 ?_
    refine x_iadd dX4_isClueTold_21 ?_
    refine x_istore dX4_isClueTold_22 (by decide) ?_
    refine x_aload_n dX4_isClueTold_24 rfl ?_
    refine m_getA (kf := 15) 15 (a := 369) (by decide) rfl rfl q2130 rfl rfl dX4_isClueTold_25 ?_
    refine x_iload dX4_isClueTold_28 rfl ?_
    refine m_iald (n := 460) rfl rfl (by decide) (by omega) dX4_isClueTold_30 ?_
    refine x_iload_n dX4_isClueTold_31 rfl ?_
    refine x_icmp_ne (t := 48) dX4_isClueTold_32 (by decide) (by omega) (fun c_32 => ?_) (fun c_32 => ?_)
    · skip
      refine x_aload_n dX4_isClueTold_48 rfl ?_
      refine m_getA (kf := 15) 15 (a := 369) (by decide) rfl rfl q2130 rfl rfl dX4_isClueTold_49 ?_
      refine x_iload dX4_isClueTold_52 rfl ?_
      refine m_iald (n := 460) rfl rfl (by decide) (by omega) dX4_isClueTold_54 ?_
      refine x_iload_n dX4_isClueTold_55 rfl ?_
      refine x_icmp_ne (t := 76) dX4_isClueTold_56 (by decide) (by omega) (fun c_56 => ?_) (fun c_56 => ?_)
      · skip
        refine x_iconst dX4_isClueTold_76 ?_
        refine x_top (bi ((I 369 (424 + 3 * m) = a ∧ I 369 (424 + 3 * m + 1) = b) ∨ (I 369 (424 + 3 * m) = b ∧ I 369 (424 + 3 * m + 1) = a))) (by first | exact (bi_t (by omega)).symm | exact (bi_f (by omega)).symm) ?_
        refine x_istore dX4_isClueTold_77 (by decide) ?_
        refine x_iload dX4_isClueTold_79 rfl ?_
        refine x_if_eq (t := 102) dX4_isClueTold_81 (by decide) (by omega) (fun c_81 => ?_) (fun c_81 => ?_)
        · skip
          have hgo := hgo (by omega) (fun z => by rw [bi_t z.1] at c_81; omega)
          refine x_iinc dX4_isClueTold_102 rfl (by decide) ?_
          refine x_goto (t := 3) dX4_isClueTold_105 (by decide) ?_
          exact x_loc (by repeat first | exact trivial | refine ⟨Or.inr rfl, ?_⟩ | refine ⟨Or.inl rfl, ?_⟩) hgo
        · skip
          have hyes := Classical.byContradiction fun z => c_81 (bi_f z)
          refine x_aload_n dX4_isClueTold_84 rfl ?_
          refine m_getA (kf := 15) 15 (a := 369) (by decide) rfl rfl q2130 rfl rfl dX4_isClueTold_85 ?_
          refine x_iload dX4_isClueTold_88 rfl ?_
          refine x_iconst dX4_isClueTold_90 ?_
          refine x_iadd dX4_isClueTold_91 ?_
          refine m_iald (n := 460) rfl rfl (by decide) (by omega) dX4_isClueTold_92 ?_
          refine x_iload_n dX4_isClueTold_93 rfl ?_
          refine m_cs1 (c_truth01 hw) fX4_truth q2327 (by decide) (Nat.le_of_ble_eq_true rfl) dX4_isClueTold_94 ?_
          refine x_icmp_ne (t := 102) dX4_isClueTold_97 (by decide) (by omega) (fun c_97 => ?_) (fun c_97 => ?_)
          · skip
            have hgo := hgo (by omega) (fun z => c_97 z.2)
            refine x_iinc dX4_isClueTold_102 rfl (by decide) ?_
            refine x_goto (t := 3) dX4_isClueTold_105 (by decide) ?_
            exact x_loc (by repeat first | exact trivial | refine ⟨Or.inr rfl, ?_⟩ | refine ⟨Or.inl rfl, ?_⟩) hgo
          · skip
            refine x_iconst dX4_isClueTold_100 ?_
            refine x_zret rfl dX4_isClueTold_101 (by first | exact Or.inl rfl | exact Or.inr rfl | exact bi_01 _ | omega) (Nat.le_refl _) (Nat.le_refl _) ?_
            exact ⟨rT ⟨m, by omega, hyes, c_97⟩, rfl, rfl⟩
      · skip
        refine x_aload_n dX4_isClueTold_59 rfl ?_
        refine m_getA (kf := 15) 15 (a := 369) (by decide) rfl rfl q2130 rfl rfl dX4_isClueTold_60 ?_
        refine x_iload dX4_isClueTold_63 rfl ?_
        refine x_iconst dX4_isClueTold_65 ?_
        refine x_iadd dX4_isClueTold_66 ?_
        refine m_iald (n := 460) rfl rfl (by decide) (by omega) dX4_isClueTold_67 ?_
        refine x_iload_n dX4_isClueTold_68 rfl ?_
        refine x_icmp_ne (t := 76) dX4_isClueTold_69 (by decide) (by omega) (fun c_69 => ?_) (fun c_69 => ?_)
        · skip
          refine x_iconst dX4_isClueTold_76 ?_
          refine x_top (bi ((I 369 (424 + 3 * m) = a ∧ I 369 (424 + 3 * m + 1) = b) ∨ (I 369 (424 + 3 * m) = b ∧ I 369 (424 + 3 * m + 1) = a))) (by first | exact (bi_t (by omega)).symm | exact (bi_f (by omega)).symm) ?_
          refine x_istore dX4_isClueTold_77 (by decide) ?_
          refine x_iload dX4_isClueTold_79 rfl ?_
          refine x_if_eq (t := 102) dX4_isClueTold_81 (by decide) (by omega) (fun c_81 => ?_) (fun c_81 => ?_)
          · skip
            have hgo := hgo (by omega) (fun z => by rw [bi_t z.1] at c_81; omega)
            refine x_iinc dX4_isClueTold_102 rfl (by decide) ?_
            refine x_goto (t := 3) dX4_isClueTold_105 (by decide) ?_
            exact x_loc (by repeat first | exact trivial | refine ⟨Or.inr rfl, ?_⟩ | refine ⟨Or.inl rfl, ?_⟩) hgo
          · skip
            have hyes := Classical.byContradiction fun z => c_81 (bi_f z)
            refine x_aload_n dX4_isClueTold_84 rfl ?_
            refine m_getA (kf := 15) 15 (a := 369) (by decide) rfl rfl q2130 rfl rfl dX4_isClueTold_85 ?_
            refine x_iload dX4_isClueTold_88 rfl ?_
            refine x_iconst dX4_isClueTold_90 ?_
            refine x_iadd dX4_isClueTold_91 ?_
            refine m_iald (n := 460) rfl rfl (by decide) (by omega) dX4_isClueTold_92 ?_
            refine x_iload_n dX4_isClueTold_93 rfl ?_
            refine m_cs1 (c_truth01 hw) fX4_truth q2327 (by decide) (Nat.le_of_ble_eq_true rfl) dX4_isClueTold_94 ?_
            refine x_icmp_ne (t := 102) dX4_isClueTold_97 (by decide) (by omega) (fun c_97 => ?_) (fun c_97 => ?_)
            · skip
              have hgo := hgo (by omega) (fun z => c_97 z.2)
              refine x_iinc dX4_isClueTold_102 rfl (by decide) ?_
              refine x_goto (t := 3) dX4_isClueTold_105 (by decide) ?_
              exact x_loc (by repeat first | exact trivial | refine ⟨Or.inr rfl, ?_⟩ | refine ⟨Or.inl rfl, ?_⟩) hgo
            · skip
              refine x_iconst dX4_isClueTold_100 ?_
              refine x_zret rfl dX4_isClueTold_101 (by first | exact Or.inl rfl | exact Or.inr rfl | exact bi_01 _ | omega) (Nat.le_refl _) (Nat.le_refl _) ?_
              exact ⟨rT ⟨m, by omega, hyes, c_97⟩, rfl, rfl⟩
        · skip
          refine x_iconst dX4_isClueTold_72 ?_
          refine x_goto (t := 77) dX4_isClueTold_73 (by decide) ?_
          refine x_top (bi ((I 369 (424 + 3 * m) = a ∧ I 369 (424 + 3 * m + 1) = b) ∨ (I 369 (424 + 3 * m) = b ∧ I 369 (424 + 3 * m + 1) = a))) (by first | exact (bi_t (by omega)).symm | exact (bi_f (by omega)).symm) ?_
          refine x_istore dX4_isClueTold_77 (by decide) ?_
          refine x_iload dX4_isClueTold_79 rfl ?_
          refine x_if_eq (t := 102) dX4_isClueTold_81 (by decide) (by omega) (fun c_81 => ?_) (fun c_81 => ?_)
          · skip
            have hgo := hgo (by omega) (fun z => by rw [bi_t z.1] at c_81; omega)
            refine x_iinc dX4_isClueTold_102 rfl (by decide) ?_
            refine x_goto (t := 3) dX4_isClueTold_105 (by decide) ?_
            exact x_loc (by repeat first | exact trivial | refine ⟨Or.inr rfl, ?_⟩ | refine ⟨Or.inl rfl, ?_⟩) hgo
          · skip
            have hyes := Classical.byContradiction fun z => c_81 (bi_f z)
            refine x_aload_n dX4_isClueTold_84 rfl ?_
            refine m_getA (kf := 15) 15 (a := 369) (by decide) rfl rfl q2130 rfl rfl dX4_isClueTold_85 ?_
            refine x_iload dX4_isClueTold_88 rfl ?_
            refine x_iconst dX4_isClueTold_90 ?_
            refine x_iadd dX4_isClueTold_91 ?_
            refine m_iald (n := 460) rfl rfl (by decide) (by omega) dX4_isClueTold_92 ?_
            refine x_iload_n dX4_isClueTold_93 rfl ?_
            refine m_cs1 (c_truth01 hw) fX4_truth q2327 (by decide) (Nat.le_of_ble_eq_true rfl) dX4_isClueTold_94 ?_
            refine x_icmp_ne (t := 102) dX4_isClueTold_97 (by decide) (by omega) (fun c_97 => ?_) (fun c_97 => ?_)
            · skip
              have hgo := hgo (by omega) (fun z => c_97 z.2)
              refine x_iinc dX4_isClueTold_102 rfl (by decide) ?_
              refine x_goto (t := 3) dX4_isClueTold_105 (by decide) ?_
              exact x_loc (by repeat first | exact trivial | refine ⟨Or.inr rfl, ?_⟩ | refine ⟨Or.inl rfl, ?_⟩) hgo
            · skip
              refine x_iconst dX4_isClueTold_100 ?_
              refine x_zret rfl dX4_isClueTold_101 (by first | exact Or.inl rfl | exact Or.inr rfl | exact bi_01 _ | omega) (Nat.le_refl _) (Nat.le_refl _) ?_
              exact ⟨rT ⟨m, by omega, hyes, c_97⟩, rfl, rfl⟩
    · skip
      refine x_aload_n dX4_isClueTold_35 rfl ?_
      refine m_getA (kf := 15) 15 (a := 369) (by decide) rfl rfl q2130 rfl rfl dX4_isClueTold_36 ?_
      refine x_iload dX4_isClueTold_39 rfl ?_
      refine x_iconst dX4_isClueTold_41 ?_
      refine x_iadd dX4_isClueTold_42 ?_
      refine m_iald (n := 460) rfl rfl (by decide) (by omega) dX4_isClueTold_43 ?_
      refine x_iload_n dX4_isClueTold_44 rfl ?_
      refine x_icmp_eq (t := 72) dX4_isClueTold_45 (by decide) (by omega) (fun c_45 => ?_) (fun c_45 => ?_)
      · skip
        refine x_iconst dX4_isClueTold_72 ?_
        refine x_goto (t := 77) dX4_isClueTold_73 (by decide) ?_
        refine x_top (bi ((I 369 (424 + 3 * m) = a ∧ I 369 (424 + 3 * m + 1) = b) ∨ (I 369 (424 + 3 * m) = b ∧ I 369 (424 + 3 * m + 1) = a))) (by first | exact (bi_t (by omega)).symm | exact (bi_f (by omega)).symm) ?_
        refine x_istore dX4_isClueTold_77 (by decide) ?_
        refine x_iload dX4_isClueTold_79 rfl ?_
        refine x_if_eq (t := 102) dX4_isClueTold_81 (by decide) (by omega) (fun c_81 => ?_) (fun c_81 => ?_)
        · skip
          have hgo := hgo (by omega) (fun z => by rw [bi_t z.1] at c_81; omega)
          refine x_iinc dX4_isClueTold_102 rfl (by decide) ?_
          refine x_goto (t := 3) dX4_isClueTold_105 (by decide) ?_
          exact x_loc (by repeat first | exact trivial | refine ⟨Or.inr rfl, ?_⟩ | refine ⟨Or.inl rfl, ?_⟩) hgo
        · skip
          have hyes := Classical.byContradiction fun z => c_81 (bi_f z)
          refine x_aload_n dX4_isClueTold_84 rfl ?_
          refine m_getA (kf := 15) 15 (a := 369) (by decide) rfl rfl q2130 rfl rfl dX4_isClueTold_85 ?_
          refine x_iload dX4_isClueTold_88 rfl ?_
          refine x_iconst dX4_isClueTold_90 ?_
          refine x_iadd dX4_isClueTold_91 ?_
          refine m_iald (n := 460) rfl rfl (by decide) (by omega) dX4_isClueTold_92 ?_
          refine x_iload_n dX4_isClueTold_93 rfl ?_
          refine m_cs1 (c_truth01 hw) fX4_truth q2327 (by decide) (Nat.le_of_ble_eq_true rfl) dX4_isClueTold_94 ?_
          refine x_icmp_ne (t := 102) dX4_isClueTold_97 (by decide) (by omega) (fun c_97 => ?_) (fun c_97 => ?_)
          · skip
            have hgo := hgo (by omega) (fun z => c_97 z.2)
            refine x_iinc dX4_isClueTold_102 rfl (by decide) ?_
            refine x_goto (t := 3) dX4_isClueTold_105 (by decide) ?_
            exact x_loc (by repeat first | exact trivial | refine ⟨Or.inr rfl, ?_⟩ | refine ⟨Or.inl rfl, ?_⟩) hgo
          · skip
            refine x_iconst dX4_isClueTold_100 ?_
            refine x_zret rfl dX4_isClueTold_101 (by first | exact Or.inl rfl | exact Or.inr rfl | exact bi_01 _ | omega) (Nat.le_refl _) (Nat.le_refl _) ?_
            exact ⟨rT ⟨m, by omega, hyes, c_97⟩, rfl, rfl⟩
      · skip
        refine x_aload_n dX4_isClueTold_48 rfl ?_
        refine m_getA (kf := 15) 15 (a := 369) (by decide) rfl rfl q2130 rfl rfl dX4_isClueTold_49 ?_
        refine x_iload dX4_isClueTold_52 rfl ?_
        refine m_iald (n := 460) rfl rfl (by decide) (by omega) dX4_isClueTold_54 ?_
        refine x_iload_n dX4_isClueTold_55 rfl ?_
        refine x_icmp_ne (t := 76) dX4_isClueTold_56 (by decide) (by omega) (fun c_56 => ?_) (fun c_56 => ?_)
        · skip
          refine x_iconst dX4_isClueTold_76 ?_
          refine x_top (bi ((I 369 (424 + 3 * m) = a ∧ I 369 (424 + 3 * m + 1) = b) ∨ (I 369 (424 + 3 * m) = b ∧ I 369 (424 + 3 * m + 1) = a))) (by first | exact (bi_t (by omega)).symm | exact (bi_f (by omega)).symm) ?_
          refine x_istore dX4_isClueTold_77 (by decide) ?_
          refine x_iload dX4_isClueTold_79 rfl ?_
          refine x_if_eq (t := 102) dX4_isClueTold_81 (by decide) (by omega) (fun c_81 => ?_) (fun c_81 => ?_)
          · skip
            have hgo := hgo (by omega) (fun z => by rw [bi_t z.1] at c_81; omega)
            refine x_iinc dX4_isClueTold_102 rfl (by decide) ?_
            refine x_goto (t := 3) dX4_isClueTold_105 (by decide) ?_
            exact x_loc (by repeat first | exact trivial | refine ⟨Or.inr rfl, ?_⟩ | refine ⟨Or.inl rfl, ?_⟩) hgo
          · skip
            have hyes := Classical.byContradiction fun z => c_81 (bi_f z)
            refine x_aload_n dX4_isClueTold_84 rfl ?_
            refine m_getA (kf := 15) 15 (a := 369) (by decide) rfl rfl q2130 rfl rfl dX4_isClueTold_85 ?_
            refine x_iload dX4_isClueTold_88 rfl ?_
            refine x_iconst dX4_isClueTold_90 ?_
            refine x_iadd dX4_isClueTold_91 ?_
            refine m_iald (n := 460) rfl rfl (by decide) (by omega) dX4_isClueTold_92 ?_
            refine x_iload_n dX4_isClueTold_93 rfl ?_
            refine m_cs1 (c_truth01 hw) fX4_truth q2327 (by decide) (Nat.le_of_ble_eq_true rfl) dX4_isClueTold_94 ?_
            refine x_icmp_ne (t := 102) dX4_isClueTold_97 (by decide) (by omega) (fun c_97 => ?_) (fun c_97 => ?_)
            · skip
              have hgo := hgo (by omega) (fun z => c_97 z.2)
              refine x_iinc dX4_isClueTold_102 rfl (by decide) ?_
              refine x_goto (t := 3) dX4_isClueTold_105 (by decide) ?_
              exact x_loc (by repeat first | exact trivial | refine ⟨Or.inr rfl, ?_⟩ | refine ⟨Or.inl rfl, ?_⟩) hgo
            · skip
              refine x_iconst dX4_isClueTold_100 ?_
              refine x_zret rfl dX4_isClueTold_101 (by first | exact Or.inl rfl | exact Or.inr rfl | exact bi_01 _ | omega) (Nat.le_refl _) (Nat.le_refl _) ?_
              exact ⟨rT ⟨m, by omega, hyes, c_97⟩, rfl, rfl⟩
        · skip
          refine x_aload_n dX4_isClueTold_59 rfl ?_
          refine m_getA (kf := 15) 15 (a := 369) (by decide) rfl rfl q2130 rfl rfl dX4_isClueTold_60 ?_
          refine x_iload dX4_isClueTold_63 rfl ?_
          refine x_iconst dX4_isClueTold_65 ?_
          refine x_iadd dX4_isClueTold_66 ?_
          refine m_iald (n := 460) rfl rfl (by decide) (by omega) dX4_isClueTold_67 ?_
          refine x_iload_n dX4_isClueTold_68 rfl ?_
          refine x_icmp_ne (t := 76) dX4_isClueTold_69 (by decide) (by omega) (fun c_69 => ?_) (fun c_69 => ?_)
          · skip
            refine x_iconst dX4_isClueTold_76 ?_
            refine x_top (bi ((I 369 (424 + 3 * m) = a ∧ I 369 (424 + 3 * m + 1) = b) ∨ (I 369 (424 + 3 * m) = b ∧ I 369 (424 + 3 * m + 1) = a))) (by first | exact (bi_t (by omega)).symm | exact (bi_f (by omega)).symm) ?_
            refine x_istore dX4_isClueTold_77 (by decide) ?_
            refine x_iload dX4_isClueTold_79 rfl ?_
            refine x_if_eq (t := 102) dX4_isClueTold_81 (by decide) (by omega) (fun c_81 => ?_) (fun c_81 => ?_)
            · skip
              have hgo := hgo (by omega) (fun z => by rw [bi_t z.1] at c_81; omega)
              refine x_iinc dX4_isClueTold_102 rfl (by decide) ?_
              refine x_goto (t := 3) dX4_isClueTold_105 (by decide) ?_
              exact x_loc (by repeat first | exact trivial | refine ⟨Or.inr rfl, ?_⟩ | refine ⟨Or.inl rfl, ?_⟩) hgo
            · skip
              have hyes := Classical.byContradiction fun z => c_81 (bi_f z)
              refine x_aload_n dX4_isClueTold_84 rfl ?_
              refine m_getA (kf := 15) 15 (a := 369) (by decide) rfl rfl q2130 rfl rfl dX4_isClueTold_85 ?_
              refine x_iload dX4_isClueTold_88 rfl ?_
              refine x_iconst dX4_isClueTold_90 ?_
              refine x_iadd dX4_isClueTold_91 ?_
              refine m_iald (n := 460) rfl rfl (by decide) (by omega) dX4_isClueTold_92 ?_
              refine x_iload_n dX4_isClueTold_93 rfl ?_
              refine m_cs1 (c_truth01 hw) fX4_truth q2327 (by decide) (Nat.le_of_ble_eq_true rfl) dX4_isClueTold_94 ?_
              refine x_icmp_ne (t := 102) dX4_isClueTold_97 (by decide) (by omega) (fun c_97 => ?_) (fun c_97 => ?_)
              · skip
                have hgo := hgo (by omega) (fun z => c_97 z.2)
                refine x_iinc dX4_isClueTold_102 rfl (by decide) ?_
                refine x_goto (t := 3) dX4_isClueTold_105 (by decide) ?_
                exact x_loc (by repeat first | exact trivial | refine ⟨Or.inr rfl, ?_⟩ | refine ⟨Or.inl rfl, ?_⟩) hgo
              · skip
                refine x_iconst dX4_isClueTold_100 ?_
                refine x_zret rfl dX4_isClueTold_101 (by first | exact Or.inl rfl | exact Or.inr rfl | exact bi_01 _ | omega) (Nat.le_refl _) (Nat.le_refl _) ?_
                exact ⟨rT ⟨m, by omega, hyes, c_97⟩, rfl, rfl⟩
          · skip
            refine x_iconst dX4_isClueTold_72 ?_
            refine x_goto (t := 77) dX4_isClueTold_73 (by decide) ?_
            refine x_top (bi ((I 369 (424 + 3 * m) = a ∧ I 369 (424 + 3 * m + 1) = b) ∨ (I 369 (424 + 3 * m) = b ∧ I 369 (424 + 3 * m + 1) = a))) (by first | exact (bi_t (by omega)).symm | exact (bi_f (by omega)).symm) ?_
            refine x_istore dX4_isClueTold_77 (by decide) ?_
            refine x_iload dX4_isClueTold_79 rfl ?_
            refine x_if_eq (t := 102) dX4_isClueTold_81 (by decide) (by omega) (fun c_81 => ?_) (fun c_81 => ?_)
            · skip
              have hgo := hgo (by omega) (fun z => by rw [bi_t z.1] at c_81; omega)
              refine x_iinc dX4_isClueTold_102 rfl (by decide) ?_
              refine x_goto (t := 3) dX4_isClueTold_105 (by decide) ?_
              exact x_loc (by repeat first | exact trivial | refine ⟨Or.inr rfl, ?_⟩ | refine ⟨Or.inl rfl, ?_⟩) hgo
            · skip
              have hyes := Classical.byContradiction fun z => c_81 (bi_f z)
              refine x_aload_n dX4_isClueTold_84 rfl ?_
              refine m_getA (kf := 15) 15 (a := 369) (by decide) rfl rfl q2130 rfl rfl dX4_isClueTold_85 ?_
              refine x_iload dX4_isClueTold_88 rfl ?_
              refine x_iconst dX4_isClueTold_90 ?_
              refine x_iadd dX4_isClueTold_91 ?_
              refine m_iald (n := 460) rfl rfl (by decide) (by omega) dX4_isClueTold_92 ?_
              refine x_iload_n dX4_isClueTold_93 rfl ?_
              refine m_cs1 (c_truth01 hw) fX4_truth q2327 (by decide) (Nat.le_of_ble_eq_true rfl) dX4_isClueTold_94 ?_
              refine x_icmp_ne (t := 102) dX4_isClueTold_97 (by decide) (by omega) (fun c_97 => ?_) (fun c_97 => ?_)
              · skip
                have hgo := hgo (by omega) (fun z => c_97 z.2)
                refine x_iinc dX4_isClueTold_102 rfl (by decide) ?_
                refine x_goto (t := 3) dX4_isClueTold_105 (by decide) ?_
                exact x_loc (by repeat first | exact trivial | refine ⟨Or.inr rfl, ?_⟩ | refine ⟨Or.inl rfl, ?_⟩) hgo
              · skip
                refine x_iconst dX4_isClueTold_100 ?_
                refine x_zret rfl dX4_isClueTold_101 (by first | exact Or.inl rfl | exact Or.inr rfl | exact bi_01 _ | omega) (Nat.le_refl _) (Nat.le_refl _) ?_
                exact ⟨rT ⟨m, by omega, hyes, c_97⟩, rfl, rfl⟩
theorem mRem_a (I : Nat → Int → Int) {x : Nat} (h : x ≠ 370) (h2 : x ≠ 360) : mRem I x = I x := by funext j; simp [mRem, h, h2]
theorem mRem_f (I : Nat → Int → Int) {j : Int} (h : j ≠ 17) (h2 : j ≠ 45) : mRem I 360 j = I 360 j := by simp [mRem, h, h2]
theorem mRem_45 (I : Nat → Int → Int) : mRem I 360 45 = 0 := by simp [mRem]
def canClue (J : Nat → Int → Int) (a b w : Int) : Prop := J 371 a ≠ J 371 b ∧ ¬ clTold J a b w ∧ J 369 3 ≠ 12
def mClue (J : Nat → Int → Int) (a b w : Int) : Nat → Int → Int := rr_u2 (rr_u2 (rr_u2 (rr_u2 (mRem J) 369 (424 + 3 * J 369 3) a) 369 (424 + 3 * J 369 3 + 1) b) 369 (424 + 3 * J 369 3 + 2) w) 369 3 (J 369 3 + 1)
def CuPost (I : Nat → Int → Int) (a b w z : Int) (J' : Nat → Int → Int) : Prop := (¬ ((0 ≤ a ∧ a < I 360 4) ∧ 0 ≤ b ∧ b < I 360 4) ∧ z = -1 ∧ J' = I) ∨ (((0 ≤ a ∧ a < I 360 4) ∧ 0 ≤ b ∧ b < I 360 4) ∧ ∃ J, LdPost I J ∧ ((¬ canClue J a b w ∧ z = -1 ∧ J' = J) ∨ (canClue J a b w ∧ z = J 369 3 + 1 ∧ J' = mClue J a b w)))
theorem ClOK_eqx {I J : Nat → Int → Int} (h : ClOK I) (h9 : J 369 = I 369) (h4 : J 360 4 = I 360 4) : ClOK J := by unfold ClOK; rw [h9, h4]; exact h
theorem c_clue {I : Nat → Int → Int} {a b w : Int} (ha : i32 a) (hb : i32 b) (hw : w = 0 ∨ w = 1) (h : MI I) (h17 : 0 ≤ I 360 17 ∧ I 360 17 ≤ 20) : mQ yX4_clue cX4_clue 5 (some FieldType.int) 6 [vR (some 360), vI a, vI b, vI w] I (CuPost I a b w) := by
  have h4 := h.1.1.2.1
  refine mQ.of (by decide) rfl (Nat.le_of_ble_eq_true rfl) (fun G nx => ?_)
  refine x_ls (ls2 := [some (vR (some 360)), some (vI a), some (vI b), some (vI w), none]) rfl ?_
  refine x_aload_n dX4_clue_0 rfl ?_
  refine x_iload_n dX4_clue_1 rfl ?_
  refine m_cv1 (c_isForm (by omega) (by assumption)) fX4_isForm q2382 (by decide) (Nat.le_of_ble_eq_true rfl) dX4_clue_2 ?_
  refine x_if_eq_b (t := 16) dX4_clue_5 (by decide) (fun c_5 => ?_) (fun c_5 => ?_)
  · skip
    refine x_iconst dX4_clue_16 ?_
    refine x_iret rfl dX4_clue_17 (Nat.le_refl _) (Nat.le_refl _) ?_
    exact ⟨_, rfl, rfl, _, rfl, Or.inl ⟨by omega, rfl, rfl⟩⟩
  · skip
    refine x_aload_n dX4_clue_8 rfl ?_
    refine x_iload_n dX4_clue_9 rfl ?_
    refine m_cv1 (c_isForm (by omega) (by assumption)) fX4_isForm q2382 (by decide) (Nat.le_of_ble_eq_true rfl) dX4_clue_10 ?_
    refine x_if_ne_b (t := 18) dX4_clue_13 (by decide) (fun c_13 => ?_) (fun c_13 => ?_)
    · skip
      refine x_aload_n dX4_clue_18 rfl ?_
      refine m_ew0 (c_lays h.1 h.2) fX4_lays q2398 (by decide) (Nat.le_of_ble_eq_true rfl) dX4_clue_19 (fun J hJ => ?_)
      have e4 := hJ.1.2 4 (by decide)
      have e17 := hJ.1.2 17 (by decide)
      have e369 := hJ.1.1 369 (by decide) (by decide)
      have hcl := ClOK_eqx h.1.2.2.2.2.2.1 e369 e4
      have h12 := hcl.1
      have hsa := (hJ.2.1.so a (by omega) (by omega)).1
      have hsb := (hJ.2.1.so b (by omega) (by omega)).1
      have hfs : (0 ≤ a ∧ a < I 360 4) ∧ 0 ≤ b ∧ b < I 360 4 := by omega
      refine x_aload_n dX4_clue_22 rfl ?_
      refine m_getA (kf := 18) 18 (a := 371) (by decide) rfl rfl q2133 rfl rfl dX4_clue_23 ?_
      refine x_iload_n dX4_clue_26 rfl ?_
      refine m_iald (n := 20) rfl rfl (by decide) (by omega) dX4_clue_27 ?_
      refine x_aload_n dX4_clue_28 rfl ?_
      refine m_getA (kf := 18) 18 (a := 371) (by decide) rfl rfl q2133 rfl rfl dX4_clue_29 ?_
      refine x_iload_n dX4_clue_32 rfl ?_
      refine m_iald (n := 20) rfl rfl (by decide) (by omega) dX4_clue_33 ?_
      refine x_icmp_eq (t := 58) dX4_clue_34 (by decide) (by omega) (fun c_34 => ?_) (fun c_34 => ?_)
      · skip
        have hno : ¬ canClue J a b w := fun z => z.1 c_34
        refine x_iconst dX4_clue_58 ?_
        refine x_iret rfl dX4_clue_59 (Nat.le_refl _) (Nat.le_refl _) ?_
        exact ⟨_, rfl, rfl, _, rfl, Or.inr ⟨hfs, J, hJ, Or.inl ⟨hno, rfl, rfl⟩⟩⟩
      · skip
        refine x_aload_n dX4_clue_37 rfl ?_
        refine x_iload_n dX4_clue_38 rfl ?_
        refine x_iload_n dX4_clue_39 rfl ?_
        refine x_iload_n dX4_clue_40 rfl ?_
        refine m_cv3 (c_isClueTold (by omega) hcl (by omega) (by omega) hw) fX4_isClueTold q2505 (by decide) (Nat.le_of_ble_eq_true rfl) dX4_clue_41 ?_
        refine x_if_ne_b (t := 58) dX4_clue_44 (by decide) (fun c_44 => ?_) (fun c_44 => ?_)
        · skip
          have hno : ¬ canClue J a b w := fun z => z.2.1 c_44
          refine x_iconst dX4_clue_58 ?_
          refine x_iret rfl dX4_clue_59 (Nat.le_refl _) (Nat.le_refl _) ?_
          exact ⟨_, rfl, rfl, _, rfl, Or.inr ⟨hfs, J, hJ, Or.inl ⟨hno, rfl, rfl⟩⟩⟩
        · skip
          refine x_aload_n dX4_clue_47 rfl ?_
          refine m_getA (kf := 15) 15 (a := 369) (by decide) rfl rfl q2130 rfl rfl dX4_clue_48 ?_
          refine x_iconst dX4_clue_51 ?_
          refine m_iald (n := 460) rfl rfl (by decide) (by omega) dX4_clue_52 ?_
          refine x_bipush dX4_clue_53 (by decide) ?_
          refine x_icmp_ne (t := 60) dX4_clue_55 (by decide) (by omega) (fun c_55 => ?_) (fun c_55 => ?_)
          · skip
            refine x_aload_n dX4_clue_60 rfl ?_
            refine m_cw0 (c_remembers (by omega)) fX4_remembers q2362 (by decide) (Nat.le_of_ble_eq_true rfl) dX4_clue_61 ?_
            have e3 : mRem J 369 = J 369 := mRem_a J (by decide) (by decide)
            refine x_sipush dX4_clue_64 (by decide) ?_
            refine x_iconst dX4_clue_67 ?_
            refine x_aload_n dX4_clue_68 rfl ?_
            refine m_getA (kf := 15) 15 (a := 369) (by decide) rfl rfl q2130 rfl rfl dX4_clue_69 ?_
            refine x_iconst dX4_clue_72 ?_
            refine m_iald (n := 460) rfl rfl (by decide) (by omega) dX4_clue_73 ?_
            rw [e3]
            refine x_imul dX4_clue_74 ?_
            refine x_iadd dX4_clue_75 ?_
            refine x_istore dX4_clue_76 (by decide) ?_
            refine x_aload_n dX4_clue_78 rfl ?_
            refine m_getA (kf := 15) 15 (a := 369) (by decide) rfl rfl q2130 rfl rfl dX4_clue_79 ?_
            refine x_iload dX4_clue_82 rfl ?_
            refine x_iload_n dX4_clue_84 rfl ?_
            refine m_iast (n := 460) rfl rfl (by decide) (by omega) dX4_clue_85 ?_
            refine x_aload_n dX4_clue_86 rfl ?_
            refine m_getA (kf := 15) 15 (a := 369) (by decide) rfl rfl q2130 rfl rfl dX4_clue_87 ?_
            refine x_iload dX4_clue_90 rfl ?_
            refine x_iconst dX4_clue_92 ?_
            refine x_iadd dX4_clue_93 ?_
            refine x_iload_n dX4_clue_94 rfl ?_
            refine m_iast (n := 460) rfl rfl (by decide) (by omega) dX4_clue_95 ?_
            refine x_aload_n dX4_clue_96 rfl ?_
            refine m_getA (kf := 15) 15 (a := 369) (by decide) rfl rfl q2130 rfl rfl dX4_clue_97 ?_
            refine x_iload dX4_clue_100 rfl ?_
            refine x_iconst dX4_clue_102 ?_
            refine x_iadd dX4_clue_103 ?_
            refine x_iload_n dX4_clue_104 rfl ?_
            refine m_cs1 (c_truth01 hw) fX4_truth q2327 (by decide) (Nat.le_of_ble_eq_true rfl) dX4_clue_105 ?_
            refine m_iast (n := 460) rfl rfl (by decide) (by omega) dX4_clue_108 ?_
            refine x_aload_n dX4_clue_109 rfl ?_
            refine m_getA (kf := 15) 15 (a := 369) (by decide) rfl rfl q2130 rfl rfl dX4_clue_110 ?_
            refine x_iconst dX4_clue_113 ?_
            refine x_dup2 dX4_clue_114 rfl rfl ?_
            refine m_iald (n := 460) rfl rfl (by decide) (by omega) dX4_clue_115 ?_
            rw [rr_u2_ne _ _ (by omega), rr_u2_ne _ _ (by omega), rr_u2_ne _ _ (by omega), e3]
            refine x_iconst dX4_clue_116 ?_
            refine x_iadd dX4_clue_117 ?_
            refine m_iast (n := 460) rfl rfl (by decide) (by omega) dX4_clue_118 ?_
            refine x_aload_n dX4_clue_119 rfl ?_
            refine m_getA (kf := 15) 15 (a := 369) (by decide) rfl rfl q2130 rfl rfl dX4_clue_120 ?_
            refine x_iconst dX4_clue_123 ?_
            refine m_iald (n := 460) rfl rfl (by decide) (by omega) dX4_clue_124 ?_
            rw [rr_u2_same]
            refine x_iret rfl dX4_clue_125 (Nat.le_refl _) (Nat.le_refl _) ?_
            exact ⟨_, rfl, rfl, _, rfl, Or.inr ⟨hfs, J, hJ, Or.inr ⟨⟨c_34, c_44, c_55⟩, rfl, rfl⟩⟩⟩
          · skip
            have hno : ¬ canClue J a b w := fun z => z.2.2 c_55
            refine x_iconst dX4_clue_58 ?_
            refine x_iret rfl dX4_clue_59 (Nat.le_refl _) (Nat.le_refl _) ?_
            exact ⟨_, rfl, rfl, _, rfl, Or.inr ⟨hfs, J, hJ, Or.inl ⟨hno, rfl, rfl⟩⟩⟩
    · skip
      refine x_iconst dX4_clue_16 ?_
      refine x_iret rfl dX4_clue_17 (Nat.le_refl _) (Nat.le_refl _) ?_
      exact ⟨_, rfl, rfl, _, rfl, Or.inl ⟨by omega, rfl, rfl⟩⟩
def gsOf (c v : Int) : Int := if c = -1 ∧ v = -1 then -1 else 5 * c + v
def canGs (I : Nat → Int → Int) (f c v : Int) : Prop := (0 ≤ f ∧ f < I 360 4) ∧ ((c = -1 ∧ v = -1) ∨ ((0 ≤ c ∧ c ≤ 9) ∧ 0 ≤ v ∧ v ≤ 4)) ∧ I 369 (4 + f) ≠ gsOf c v
def mGs (I : Nat → Int → Int) (f c v : Int) : Nat → Int → Int := rr_u2 (mRem I) 369 (4 + f) (gsOf c v)
def GuPost (I : Nat → Int → Int) (f c v z : Int) (J : Nat → Int → Int) : Prop := (¬ canGs I f c v ∧ z = -1 ∧ J = I) ∨ (canGs I f c v ∧ LdPost (mGs I f c v) J ∧ z = m_disp J)
theorem LyOK_gs {I : Nat → Int → Int} {f c v : Int} (h : LyOK I) (hc : canGs I f c v) : LyOK (mGs I f c v) := by
  have h4 := h.1.2.1
  have hg : -1 ≤ gsOf c v ∧ gsOf c v < 50 := by
    unfold gsOf
    have := hc.2.1
    split <;> omega
  have hf := hc.1
  have e : ∀ x, x ≠ 370 → x ≠ 360 → x ≠ 369 → mGs I f c v x = I x := fun x a b d => by
    funext j
    unfold mGs
    rw [rr_u2_ne _ _ (fun z => d z.1), mRem_a I a b]
  have e9 : ∀ j, j ≠ 4 + f → mGs I f c v 369 j = I 369 j := fun j hj => by
    unfold mGs
    rw [rr_u2_ne _ _ (fun z => hj z.2), mRem_a I (by decide) (by decide)]
  have e4 : mGs I f c v 360 4 = I 360 4 := by unfold mGs; rw [rr_u2_ne _ _ (by omega), mRem_f I (by decide) (by decide)]
  have e8 : mGs I f c v 360 8 = I 360 8 := by unfold mGs; rw [rr_u2_ne _ _ (by omega), mRem_f I (by decide) (by decide)]
  obtain ⟨h1, h2, h3, h5, h6, h7, h8⟩ := h
  refine ⟨?_, fun j a b => ?_, ?_, ?_, ?_, ?_, fun g a b => ?_⟩
  · unfold StOK RowOK at *
    rw [e 364 (by decide) (by decide) (by decide), e 365 (by decide) (by decide) (by decide), e 366 (by decide) (by decide) (by decide), e4, e8]
    exact h1
  · rw [e9 j (by omega)]; exact h2 j a b
  · rw [e9 0 (by omega)]; exact h3
  · unfold way at *; rw [e9 1 (by omega)]; exact h5
  · rw [e9 2 (by omega)]; exact h6
  · refine ⟨by rw [e9 3 (by omega)]; exact h7.1, fun m a b => ?_⟩
    rw [e9 3 (by omega)] at b
    rw [e9 _ (by omega), e9 _ (by omega), e9 _ (by omega), e4]
    exact h7.2 m a b
  · by_cases z : g = f
    · rw [z]
      unfold mGs
      rw [rr_u2_same]
      exact hg
    · rw [e9 _ (by omega)]; exact h8 g a b
theorem c_guess {I : Nat → Int → Int} {f c v : Int} (hf : i32 f) (hc : i32 c) (hv : i32 v) (h : MI I) (h17 : 0 ≤ I 360 17 ∧ I 360 17 ≤ 20) : mQ yX4_guess cX4_guess 6 (some FieldType.int) 6 [vR (some 360), vI f, vI c, vI v] I (GuPost I f c v) := by
  have h4 := h.1.1.2.1
  have hgs := h.1.2.2.2.2.2.2
  have hb01 := bi_01 (c = -1 ∧ v = -1)
  refine mQ.of (by decide) rfl (Nat.le_of_ble_eq_true rfl) (fun G nx => ?_)
  refine x_ls (ls2 := [some (vR (some 360)), some (vI f), some (vI c), some (vI v), none, none]) rfl ?_
  refine x_iload_n dX4_guess_0 rfl ?_
  refine x_iconst dX4_guess_1 ?_
  refine x_icmp_ne (t := 14) dX4_guess_2 (by decide) (by omega) (fun c_2 => ?_) (fun c_2 => ?_)
  · skip
    refine x_iconst dX4_guess_14 ?_
    refine x_top (bi (c = -1 ∧ v = -1)) (by first | exact (bi_t (by omega)).symm | exact (bi_f (by omega)).symm) ?_
    refine x_istore dX4_guess_15 (by decide) ?_
    refine x_aload_n dX4_guess_17 rfl ?_
    refine x_iload_n dX4_guess_18 rfl ?_
    refine m_cv1 (c_isForm (by omega) (by assumption)) fX4_isForm q2382 (by decide) (Nat.le_of_ble_eq_true rfl) dX4_guess_19 ?_
    refine x_if_eq_b (t := 49) dX4_guess_22 (by decide) (fun c_22 => ?_) (fun c_22 => ?_)
    · skip
      refine x_iconst dX4_guess_49 ?_
      refine x_iret rfl dX4_guess_50 (Nat.le_refl _) (Nat.le_refl _) ?_
      exact ⟨_, rfl, rfl, _, rfl, Or.inl ⟨fun z => by have := z.1; have := z.2.1; omega, rfl, rfl⟩⟩
    · skip
      refine x_iload dX4_guess_25 rfl ?_
      refine x_if_ne (t := 51) dX4_guess_27 (by decide) (by omega) (fun c_27 => ?_) (fun c_27 => ?_)
      · skip
        have hnn : c = -1 ∧ v = -1 := Classical.byContradiction fun z => c_27 (bi_f z)
        refine x_iload dX4_guess_51 rfl ?_
        refine x_if_eq (t := 60) dX4_guess_53 (by decide) (by omega) (fun c_53 => ?_) (fun c_53 => ?_)
        · skip
          have hn2 : ¬ (c = -1 ∧ v = -1) := fun z => by rw [bi_t z] at c_53; omega
          refine x_iconst dX4_guess_60 ?_
          refine x_iload_n dX4_guess_61 rfl ?_
          refine x_imul dX4_guess_62 ?_
          refine x_iload_n dX4_guess_63 rfl ?_
          refine x_iadd dX4_guess_64 ?_
          refine x_top (gsOf c v) (by unfold gsOf; first | rw [if_pos hn2] | rw [if_neg hn2]) ?_
          have hgf := hgs f (by omega) (by omega)
          have hgi : -1 ≤ gsOf c v ∧ gsOf c v < 50 := by unfold gsOf; split <;> omega
          refine x_istore dX4_guess_65 (by decide) ?_
          refine x_aload_n dX4_guess_67 rfl ?_
          refine m_getA (kf := 15) 15 (a := 369) (by decide) rfl rfl q2130 rfl rfl dX4_guess_68 ?_
          refine x_iconst dX4_guess_71 ?_
          refine x_iload_n dX4_guess_72 rfl ?_
          refine x_iadd dX4_guess_73 ?_
          refine m_iald (n := 460) rfl rfl (by decide) (by omega) dX4_guess_74 ?_
          refine x_iload dX4_guess_75 rfl ?_
          refine x_icmp_ne (t := 82) dX4_guess_77 (by decide) (by omega) (fun c_77 => ?_) (fun c_77 => ?_)
          · skip
            have hcan : canGs I f c v := ⟨by omega, by omega, c_77⟩
            refine x_aload_n dX4_guess_82 rfl ?_
            refine m_cw0 (c_remembers h17) fX4_remembers q2362 (by decide) (Nat.le_of_ble_eq_true rfl) dX4_guess_83 ?_
            refine x_aload_n dX4_guess_86 rfl ?_
            refine m_getA (kf := 15) 15 (a := 369) (by decide) rfl rfl q2130 rfl rfl dX4_guess_87 ?_
            refine x_iconst dX4_guess_90 ?_
            refine x_iload_n dX4_guess_91 rfl ?_
            refine x_iadd dX4_guess_92 ?_
            refine x_iload dX4_guess_93 rfl ?_
            refine m_iast (n := 460) rfl rfl (by decide) (by omega) dX4_guess_95 ?_
            refine x_aload_n dX4_guess_96 rfl ?_
            refine m_ew0 (c_lays (I := mGs I f c v) (LyOK_gs h.1 hcan) (Or.inl (by unfold mGs; rw [rr_u2_ne _ _ (by omega), mRem_45]))) fX4_lays q2398 (by decide) (Nat.le_of_ble_eq_true rfl) dX4_guess_97 (fun J hJ => ?_)
            have e4 : J 360 4 = I 360 4 := by rw [hJ.1.2 4 (by decide)]; unfold mGs; rw [rr_u2_ne _ _ (by omega), mRem_f I (by decide) (by decide)]
            have hLd := hJ.2.1
            have hgs := GsOK_eqx (LyOK_gs h.1 hcan).2.2.2.2.2.2 (hJ.1.1 369 (by decide) (by decide))
            refine x_aload_n dX4_guess_100 rfl ?_
            refine m_cv0 (c_disputedMany (by omega) hLd hgs) fX4_disputedMany q2513 (by decide) (Nat.le_of_ble_eq_true rfl) dX4_guess_101 ?_
            refine x_iret rfl dX4_guess_104 (Nat.le_refl _) (Nat.le_refl _) ?_
            exact ⟨_, rfl, rfl, _, rfl, Or.inr ⟨hcan, hJ, rfl⟩⟩
          · skip
            refine x_iconst dX4_guess_80 ?_
            refine x_iret rfl dX4_guess_81 (Nat.le_refl _) (Nat.le_refl _) ?_
            exact ⟨_, rfl, rfl, _, rfl, Or.inl ⟨fun z => z.2.2 c_77, rfl, rfl⟩⟩
        · skip
          have hn2 : c = -1 ∧ v = -1 := Classical.byContradiction fun z => c_53 (bi_f z)
          refine x_iconst dX4_guess_56 ?_
          refine x_goto (t := 65) dX4_guess_57 (by decide) ?_
          refine x_top (gsOf c v) (by unfold gsOf; first | rw [if_pos hn2] | rw [if_neg hn2]) ?_
          have hgf := hgs f (by omega) (by omega)
          have hgi : -1 ≤ gsOf c v ∧ gsOf c v < 50 := by unfold gsOf; split <;> omega
          refine x_istore dX4_guess_65 (by decide) ?_
          refine x_aload_n dX4_guess_67 rfl ?_
          refine m_getA (kf := 15) 15 (a := 369) (by decide) rfl rfl q2130 rfl rfl dX4_guess_68 ?_
          refine x_iconst dX4_guess_71 ?_
          refine x_iload_n dX4_guess_72 rfl ?_
          refine x_iadd dX4_guess_73 ?_
          refine m_iald (n := 460) rfl rfl (by decide) (by omega) dX4_guess_74 ?_
          refine x_iload dX4_guess_75 rfl ?_
          refine x_icmp_ne (t := 82) dX4_guess_77 (by decide) (by omega) (fun c_77 => ?_) (fun c_77 => ?_)
          · skip
            have hcan : canGs I f c v := ⟨by omega, by omega, c_77⟩
            refine x_aload_n dX4_guess_82 rfl ?_
            refine m_cw0 (c_remembers h17) fX4_remembers q2362 (by decide) (Nat.le_of_ble_eq_true rfl) dX4_guess_83 ?_
            refine x_aload_n dX4_guess_86 rfl ?_
            refine m_getA (kf := 15) 15 (a := 369) (by decide) rfl rfl q2130 rfl rfl dX4_guess_87 ?_
            refine x_iconst dX4_guess_90 ?_
            refine x_iload_n dX4_guess_91 rfl ?_
            refine x_iadd dX4_guess_92 ?_
            refine x_iload dX4_guess_93 rfl ?_
            refine m_iast (n := 460) rfl rfl (by decide) (by omega) dX4_guess_95 ?_
            refine x_aload_n dX4_guess_96 rfl ?_
            refine m_ew0 (c_lays (I := mGs I f c v) (LyOK_gs h.1 hcan) (Or.inl (by unfold mGs; rw [rr_u2_ne _ _ (by omega), mRem_45]))) fX4_lays q2398 (by decide) (Nat.le_of_ble_eq_true rfl) dX4_guess_97 (fun J hJ => ?_)
            have e4 : J 360 4 = I 360 4 := by rw [hJ.1.2 4 (by decide)]; unfold mGs; rw [rr_u2_ne _ _ (by omega), mRem_f I (by decide) (by decide)]
            have hLd := hJ.2.1
            have hgs := GsOK_eqx (LyOK_gs h.1 hcan).2.2.2.2.2.2 (hJ.1.1 369 (by decide) (by decide))
            refine x_aload_n dX4_guess_100 rfl ?_
            refine m_cv0 (c_disputedMany (by omega) hLd hgs) fX4_disputedMany q2513 (by decide) (Nat.le_of_ble_eq_true rfl) dX4_guess_101 ?_
            refine x_iret rfl dX4_guess_104 (Nat.le_refl _) (Nat.le_refl _) ?_
            exact ⟨_, rfl, rfl, _, rfl, Or.inr ⟨hcan, hJ, rfl⟩⟩
          · skip
            refine x_iconst dX4_guess_80 ?_
            refine x_iret rfl dX4_guess_81 (Nat.le_refl _) (Nat.le_refl _) ?_
            exact ⟨_, rfl, rfl, _, rfl, Or.inl ⟨fun z => z.2.2 c_77, rfl, rfl⟩⟩
      · skip
        have hnn : ¬ (c = -1 ∧ v = -1) := fun z => by rw [bi_t z] at c_27; omega
        refine x_iload_n dX4_guess_30 rfl ?_
        refine x_iconst dX4_guess_31 ?_
        refine x_bipush dX4_guess_32 (by decide) ?_
        refine m_cs3 (c_in (by omega) (by omega) (by omega)) fX4_in q2299 (by decide) (Nat.le_of_ble_eq_true rfl) dX4_guess_34 ?_
        refine x_if_eq_b (t := 49) dX4_guess_37 (by decide) (fun c_37 => ?_) (fun c_37 => ?_)
        · skip
          refine x_iconst dX4_guess_49 ?_
          refine x_iret rfl dX4_guess_50 (Nat.le_refl _) (Nat.le_refl _) ?_
          exact ⟨_, rfl, rfl, _, rfl, Or.inl ⟨fun z => by have := z.1; have := z.2.1; omega, rfl, rfl⟩⟩
        · skip
          refine x_iload_n dX4_guess_40 rfl ?_
          refine x_iconst dX4_guess_41 ?_
          refine x_iconst dX4_guess_42 ?_
          refine m_cs3 (c_in (by omega) (by omega) (by omega)) fX4_in q2299 (by decide) (Nat.le_of_ble_eq_true rfl) dX4_guess_43 ?_
          refine x_if_ne_b (t := 51) dX4_guess_46 (by decide) (fun c_46 => ?_) (fun c_46 => ?_)
          · skip
            refine x_iload dX4_guess_51 rfl ?_
            refine x_if_eq (t := 60) dX4_guess_53 (by decide) (by omega) (fun c_53 => ?_) (fun c_53 => ?_)
            · skip
              have hn2 : ¬ (c = -1 ∧ v = -1) := fun z => by rw [bi_t z] at c_53; omega
              refine x_iconst dX4_guess_60 ?_
              refine x_iload_n dX4_guess_61 rfl ?_
              refine x_imul dX4_guess_62 ?_
              refine x_iload_n dX4_guess_63 rfl ?_
              refine x_iadd dX4_guess_64 ?_
              refine x_top (gsOf c v) (by unfold gsOf; first | rw [if_pos hn2] | rw [if_neg hn2]) ?_
              have hgf := hgs f (by omega) (by omega)
              have hgi : -1 ≤ gsOf c v ∧ gsOf c v < 50 := by unfold gsOf; split <;> omega
              refine x_istore dX4_guess_65 (by decide) ?_
              refine x_aload_n dX4_guess_67 rfl ?_
              refine m_getA (kf := 15) 15 (a := 369) (by decide) rfl rfl q2130 rfl rfl dX4_guess_68 ?_
              refine x_iconst dX4_guess_71 ?_
              refine x_iload_n dX4_guess_72 rfl ?_
              refine x_iadd dX4_guess_73 ?_
              refine m_iald (n := 460) rfl rfl (by decide) (by omega) dX4_guess_74 ?_
              refine x_iload dX4_guess_75 rfl ?_
              refine x_icmp_ne (t := 82) dX4_guess_77 (by decide) (by omega) (fun c_77 => ?_) (fun c_77 => ?_)
              · skip
                have hcan : canGs I f c v := ⟨by omega, by omega, c_77⟩
                refine x_aload_n dX4_guess_82 rfl ?_
                refine m_cw0 (c_remembers h17) fX4_remembers q2362 (by decide) (Nat.le_of_ble_eq_true rfl) dX4_guess_83 ?_
                refine x_aload_n dX4_guess_86 rfl ?_
                refine m_getA (kf := 15) 15 (a := 369) (by decide) rfl rfl q2130 rfl rfl dX4_guess_87 ?_
                refine x_iconst dX4_guess_90 ?_
                refine x_iload_n dX4_guess_91 rfl ?_
                refine x_iadd dX4_guess_92 ?_
                refine x_iload dX4_guess_93 rfl ?_
                refine m_iast (n := 460) rfl rfl (by decide) (by omega) dX4_guess_95 ?_
                refine x_aload_n dX4_guess_96 rfl ?_
                refine m_ew0 (c_lays (I := mGs I f c v) (LyOK_gs h.1 hcan) (Or.inl (by unfold mGs; rw [rr_u2_ne _ _ (by omega), mRem_45]))) fX4_lays q2398 (by decide) (Nat.le_of_ble_eq_true rfl) dX4_guess_97 (fun J hJ => ?_)
                have e4 : J 360 4 = I 360 4 := by rw [hJ.1.2 4 (by decide)]; unfold mGs; rw [rr_u2_ne _ _ (by omega), mRem_f I (by decide) (by decide)]
                have hLd := hJ.2.1
                have hgs := GsOK_eqx (LyOK_gs h.1 hcan).2.2.2.2.2.2 (hJ.1.1 369 (by decide) (by decide))
                refine x_aload_n dX4_guess_100 rfl ?_
                refine m_cv0 (c_disputedMany (by omega) hLd hgs) fX4_disputedMany q2513 (by decide) (Nat.le_of_ble_eq_true rfl) dX4_guess_101 ?_
                refine x_iret rfl dX4_guess_104 (Nat.le_refl _) (Nat.le_refl _) ?_
                exact ⟨_, rfl, rfl, _, rfl, Or.inr ⟨hcan, hJ, rfl⟩⟩
              · skip
                refine x_iconst dX4_guess_80 ?_
                refine x_iret rfl dX4_guess_81 (Nat.le_refl _) (Nat.le_refl _) ?_
                exact ⟨_, rfl, rfl, _, rfl, Or.inl ⟨fun z => z.2.2 c_77, rfl, rfl⟩⟩
            · skip
              have hn2 : c = -1 ∧ v = -1 := Classical.byContradiction fun z => c_53 (bi_f z)
              refine x_iconst dX4_guess_56 ?_
              refine x_goto (t := 65) dX4_guess_57 (by decide) ?_
              refine x_top (gsOf c v) (by unfold gsOf; first | rw [if_pos hn2] | rw [if_neg hn2]) ?_
              have hgf := hgs f (by omega) (by omega)
              have hgi : -1 ≤ gsOf c v ∧ gsOf c v < 50 := by unfold gsOf; split <;> omega
              refine x_istore dX4_guess_65 (by decide) ?_
              refine x_aload_n dX4_guess_67 rfl ?_
              refine m_getA (kf := 15) 15 (a := 369) (by decide) rfl rfl q2130 rfl rfl dX4_guess_68 ?_
              refine x_iconst dX4_guess_71 ?_
              refine x_iload_n dX4_guess_72 rfl ?_
              refine x_iadd dX4_guess_73 ?_
              refine m_iald (n := 460) rfl rfl (by decide) (by omega) dX4_guess_74 ?_
              refine x_iload dX4_guess_75 rfl ?_
              refine x_icmp_ne (t := 82) dX4_guess_77 (by decide) (by omega) (fun c_77 => ?_) (fun c_77 => ?_)
              · skip
                have hcan : canGs I f c v := ⟨by omega, by omega, c_77⟩
                refine x_aload_n dX4_guess_82 rfl ?_
                refine m_cw0 (c_remembers h17) fX4_remembers q2362 (by decide) (Nat.le_of_ble_eq_true rfl) dX4_guess_83 ?_
                refine x_aload_n dX4_guess_86 rfl ?_
                refine m_getA (kf := 15) 15 (a := 369) (by decide) rfl rfl q2130 rfl rfl dX4_guess_87 ?_
                refine x_iconst dX4_guess_90 ?_
                refine x_iload_n dX4_guess_91 rfl ?_
                refine x_iadd dX4_guess_92 ?_
                refine x_iload dX4_guess_93 rfl ?_
                refine m_iast (n := 460) rfl rfl (by decide) (by omega) dX4_guess_95 ?_
                refine x_aload_n dX4_guess_96 rfl ?_
                refine m_ew0 (c_lays (I := mGs I f c v) (LyOK_gs h.1 hcan) (Or.inl (by unfold mGs; rw [rr_u2_ne _ _ (by omega), mRem_45]))) fX4_lays q2398 (by decide) (Nat.le_of_ble_eq_true rfl) dX4_guess_97 (fun J hJ => ?_)
                have e4 : J 360 4 = I 360 4 := by rw [hJ.1.2 4 (by decide)]; unfold mGs; rw [rr_u2_ne _ _ (by omega), mRem_f I (by decide) (by decide)]
                have hLd := hJ.2.1
                have hgs := GsOK_eqx (LyOK_gs h.1 hcan).2.2.2.2.2.2 (hJ.1.1 369 (by decide) (by decide))
                refine x_aload_n dX4_guess_100 rfl ?_
                refine m_cv0 (c_disputedMany (by omega) hLd hgs) fX4_disputedMany q2513 (by decide) (Nat.le_of_ble_eq_true rfl) dX4_guess_101 ?_
                refine x_iret rfl dX4_guess_104 (Nat.le_refl _) (Nat.le_refl _) ?_
                exact ⟨_, rfl, rfl, _, rfl, Or.inr ⟨hcan, hJ, rfl⟩⟩
              · skip
                refine x_iconst dX4_guess_80 ?_
                refine x_iret rfl dX4_guess_81 (Nat.le_refl _) (Nat.le_refl _) ?_
                exact ⟨_, rfl, rfl, _, rfl, Or.inl ⟨fun z => z.2.2 c_77, rfl, rfl⟩⟩
          · skip
            refine x_iconst dX4_guess_49 ?_
            refine x_iret rfl dX4_guess_50 (Nat.le_refl _) (Nat.le_refl _) ?_
            exact ⟨_, rfl, rfl, _, rfl, Or.inl ⟨fun z => by have := z.1; have := z.2.1; omega, rfl, rfl⟩⟩
  · skip
    refine x_iload_n dX4_guess_5 rfl ?_
    refine x_iconst dX4_guess_6 ?_
    refine x_icmp_ne (t := 14) dX4_guess_7 (by decide) (by omega) (fun c_7 => ?_) (fun c_7 => ?_)
    · skip
      refine x_iconst dX4_guess_14 ?_
      refine x_top (bi (c = -1 ∧ v = -1)) (by first | exact (bi_t (by omega)).symm | exact (bi_f (by omega)).symm) ?_
      refine x_istore dX4_guess_15 (by decide) ?_
      refine x_aload_n dX4_guess_17 rfl ?_
      refine x_iload_n dX4_guess_18 rfl ?_
      refine m_cv1 (c_isForm (by omega) (by assumption)) fX4_isForm q2382 (by decide) (Nat.le_of_ble_eq_true rfl) dX4_guess_19 ?_
      refine x_if_eq_b (t := 49) dX4_guess_22 (by decide) (fun c_22 => ?_) (fun c_22 => ?_)
      · skip
        refine x_iconst dX4_guess_49 ?_
        refine x_iret rfl dX4_guess_50 (Nat.le_refl _) (Nat.le_refl _) ?_
        exact ⟨_, rfl, rfl, _, rfl, Or.inl ⟨fun z => by have := z.1; have := z.2.1; omega, rfl, rfl⟩⟩
      · skip
        refine x_iload dX4_guess_25 rfl ?_
        refine x_if_ne (t := 51) dX4_guess_27 (by decide) (by omega) (fun c_27 => ?_) (fun c_27 => ?_)
        · skip
          have hnn : c = -1 ∧ v = -1 := Classical.byContradiction fun z => c_27 (bi_f z)
          refine x_iload dX4_guess_51 rfl ?_
          refine x_if_eq (t := 60) dX4_guess_53 (by decide) (by omega) (fun c_53 => ?_) (fun c_53 => ?_)
          · skip
            have hn2 : ¬ (c = -1 ∧ v = -1) := fun z => by rw [bi_t z] at c_53; omega
            refine x_iconst dX4_guess_60 ?_
            refine x_iload_n dX4_guess_61 rfl ?_
            refine x_imul dX4_guess_62 ?_
            refine x_iload_n dX4_guess_63 rfl ?_
            refine x_iadd dX4_guess_64 ?_
            refine x_top (gsOf c v) (by unfold gsOf; first | rw [if_pos hn2] | rw [if_neg hn2]) ?_
            have hgf := hgs f (by omega) (by omega)
            have hgi : -1 ≤ gsOf c v ∧ gsOf c v < 50 := by unfold gsOf; split <;> omega
            refine x_istore dX4_guess_65 (by decide) ?_
            refine x_aload_n dX4_guess_67 rfl ?_
            refine m_getA (kf := 15) 15 (a := 369) (by decide) rfl rfl q2130 rfl rfl dX4_guess_68 ?_
            refine x_iconst dX4_guess_71 ?_
            refine x_iload_n dX4_guess_72 rfl ?_
            refine x_iadd dX4_guess_73 ?_
            refine m_iald (n := 460) rfl rfl (by decide) (by omega) dX4_guess_74 ?_
            refine x_iload dX4_guess_75 rfl ?_
            refine x_icmp_ne (t := 82) dX4_guess_77 (by decide) (by omega) (fun c_77 => ?_) (fun c_77 => ?_)
            · skip
              have hcan : canGs I f c v := ⟨by omega, by omega, c_77⟩
              refine x_aload_n dX4_guess_82 rfl ?_
              refine m_cw0 (c_remembers h17) fX4_remembers q2362 (by decide) (Nat.le_of_ble_eq_true rfl) dX4_guess_83 ?_
              refine x_aload_n dX4_guess_86 rfl ?_
              refine m_getA (kf := 15) 15 (a := 369) (by decide) rfl rfl q2130 rfl rfl dX4_guess_87 ?_
              refine x_iconst dX4_guess_90 ?_
              refine x_iload_n dX4_guess_91 rfl ?_
              refine x_iadd dX4_guess_92 ?_
              refine x_iload dX4_guess_93 rfl ?_
              refine m_iast (n := 460) rfl rfl (by decide) (by omega) dX4_guess_95 ?_
              refine x_aload_n dX4_guess_96 rfl ?_
              refine m_ew0 (c_lays (I := mGs I f c v) (LyOK_gs h.1 hcan) (Or.inl (by unfold mGs; rw [rr_u2_ne _ _ (by omega), mRem_45]))) fX4_lays q2398 (by decide) (Nat.le_of_ble_eq_true rfl) dX4_guess_97 (fun J hJ => ?_)
              have e4 : J 360 4 = I 360 4 := by rw [hJ.1.2 4 (by decide)]; unfold mGs; rw [rr_u2_ne _ _ (by omega), mRem_f I (by decide) (by decide)]
              have hLd := hJ.2.1
              have hgs := GsOK_eqx (LyOK_gs h.1 hcan).2.2.2.2.2.2 (hJ.1.1 369 (by decide) (by decide))
              refine x_aload_n dX4_guess_100 rfl ?_
              refine m_cv0 (c_disputedMany (by omega) hLd hgs) fX4_disputedMany q2513 (by decide) (Nat.le_of_ble_eq_true rfl) dX4_guess_101 ?_
              refine x_iret rfl dX4_guess_104 (Nat.le_refl _) (Nat.le_refl _) ?_
              exact ⟨_, rfl, rfl, _, rfl, Or.inr ⟨hcan, hJ, rfl⟩⟩
            · skip
              refine x_iconst dX4_guess_80 ?_
              refine x_iret rfl dX4_guess_81 (Nat.le_refl _) (Nat.le_refl _) ?_
              exact ⟨_, rfl, rfl, _, rfl, Or.inl ⟨fun z => z.2.2 c_77, rfl, rfl⟩⟩
          · skip
            have hn2 : c = -1 ∧ v = -1 := Classical.byContradiction fun z => c_53 (bi_f z)
            refine x_iconst dX4_guess_56 ?_
            refine x_goto (t := 65) dX4_guess_57 (by decide) ?_
            refine x_top (gsOf c v) (by unfold gsOf; first | rw [if_pos hn2] | rw [if_neg hn2]) ?_
            have hgf := hgs f (by omega) (by omega)
            have hgi : -1 ≤ gsOf c v ∧ gsOf c v < 50 := by unfold gsOf; split <;> omega
            refine x_istore dX4_guess_65 (by decide) ?_
            refine x_aload_n dX4_guess_67 rfl ?_
            refine m_getA (kf := 15) 15 (a := 369) (by decide) rfl rfl q2130 rfl rfl dX4_guess_68 ?_
            refine x_iconst dX4_guess_71 ?_
            refine x_iload_n dX4_guess_72 rfl ?_
            refine x_iadd dX4_guess_73 ?_
            refine m_iald (n := 460) rfl rfl (by decide) (by omega) dX4_guess_74 ?_
            refine x_iload dX4_guess_75 rfl ?_
            refine x_icmp_ne (t := 82) dX4_guess_77 (by decide) (by omega) (fun c_77 => ?_) (fun c_77 => ?_)
            · skip
              have hcan : canGs I f c v := ⟨by omega, by omega, c_77⟩
              refine x_aload_n dX4_guess_82 rfl ?_
              refine m_cw0 (c_remembers h17) fX4_remembers q2362 (by decide) (Nat.le_of_ble_eq_true rfl) dX4_guess_83 ?_
              refine x_aload_n dX4_guess_86 rfl ?_
              refine m_getA (kf := 15) 15 (a := 369) (by decide) rfl rfl q2130 rfl rfl dX4_guess_87 ?_
              refine x_iconst dX4_guess_90 ?_
              refine x_iload_n dX4_guess_91 rfl ?_
              refine x_iadd dX4_guess_92 ?_
              refine x_iload dX4_guess_93 rfl ?_
              refine m_iast (n := 460) rfl rfl (by decide) (by omega) dX4_guess_95 ?_
              refine x_aload_n dX4_guess_96 rfl ?_
              refine m_ew0 (c_lays (I := mGs I f c v) (LyOK_gs h.1 hcan) (Or.inl (by unfold mGs; rw [rr_u2_ne _ _ (by omega), mRem_45]))) fX4_lays q2398 (by decide) (Nat.le_of_ble_eq_true rfl) dX4_guess_97 (fun J hJ => ?_)
              have e4 : J 360 4 = I 360 4 := by rw [hJ.1.2 4 (by decide)]; unfold mGs; rw [rr_u2_ne _ _ (by omega), mRem_f I (by decide) (by decide)]
              have hLd := hJ.2.1
              have hgs := GsOK_eqx (LyOK_gs h.1 hcan).2.2.2.2.2.2 (hJ.1.1 369 (by decide) (by decide))
              refine x_aload_n dX4_guess_100 rfl ?_
              refine m_cv0 (c_disputedMany (by omega) hLd hgs) fX4_disputedMany q2513 (by decide) (Nat.le_of_ble_eq_true rfl) dX4_guess_101 ?_
              refine x_iret rfl dX4_guess_104 (Nat.le_refl _) (Nat.le_refl _) ?_
              exact ⟨_, rfl, rfl, _, rfl, Or.inr ⟨hcan, hJ, rfl⟩⟩
            · skip
              refine x_iconst dX4_guess_80 ?_
              refine x_iret rfl dX4_guess_81 (Nat.le_refl _) (Nat.le_refl _) ?_
              exact ⟨_, rfl, rfl, _, rfl, Or.inl ⟨fun z => z.2.2 c_77, rfl, rfl⟩⟩
        · skip
          have hnn : ¬ (c = -1 ∧ v = -1) := fun z => by rw [bi_t z] at c_27; omega
          refine x_iload_n dX4_guess_30 rfl ?_
          refine x_iconst dX4_guess_31 ?_
          refine x_bipush dX4_guess_32 (by decide) ?_
          refine m_cs3 (c_in (by omega) (by omega) (by omega)) fX4_in q2299 (by decide) (Nat.le_of_ble_eq_true rfl) dX4_guess_34 ?_
          refine x_if_eq_b (t := 49) dX4_guess_37 (by decide) (fun c_37 => ?_) (fun c_37 => ?_)
          · skip
            refine x_iconst dX4_guess_49 ?_
            refine x_iret rfl dX4_guess_50 (Nat.le_refl _) (Nat.le_refl _) ?_
            exact ⟨_, rfl, rfl, _, rfl, Or.inl ⟨fun z => by have := z.1; have := z.2.1; omega, rfl, rfl⟩⟩
          · skip
            refine x_iload_n dX4_guess_40 rfl ?_
            refine x_iconst dX4_guess_41 ?_
            refine x_iconst dX4_guess_42 ?_
            refine m_cs3 (c_in (by omega) (by omega) (by omega)) fX4_in q2299 (by decide) (Nat.le_of_ble_eq_true rfl) dX4_guess_43 ?_
            refine x_if_ne_b (t := 51) dX4_guess_46 (by decide) (fun c_46 => ?_) (fun c_46 => ?_)
            · skip
              refine x_iload dX4_guess_51 rfl ?_
              refine x_if_eq (t := 60) dX4_guess_53 (by decide) (by omega) (fun c_53 => ?_) (fun c_53 => ?_)
              · skip
                have hn2 : ¬ (c = -1 ∧ v = -1) := fun z => by rw [bi_t z] at c_53; omega
                refine x_iconst dX4_guess_60 ?_
                refine x_iload_n dX4_guess_61 rfl ?_
                refine x_imul dX4_guess_62 ?_
                refine x_iload_n dX4_guess_63 rfl ?_
                refine x_iadd dX4_guess_64 ?_
                refine x_top (gsOf c v) (by unfold gsOf; first | rw [if_pos hn2] | rw [if_neg hn2]) ?_
                have hgf := hgs f (by omega) (by omega)
                have hgi : -1 ≤ gsOf c v ∧ gsOf c v < 50 := by unfold gsOf; split <;> omega
                refine x_istore dX4_guess_65 (by decide) ?_
                refine x_aload_n dX4_guess_67 rfl ?_
                refine m_getA (kf := 15) 15 (a := 369) (by decide) rfl rfl q2130 rfl rfl dX4_guess_68 ?_
                refine x_iconst dX4_guess_71 ?_
                refine x_iload_n dX4_guess_72 rfl ?_
                refine x_iadd dX4_guess_73 ?_
                refine m_iald (n := 460) rfl rfl (by decide) (by omega) dX4_guess_74 ?_
                refine x_iload dX4_guess_75 rfl ?_
                refine x_icmp_ne (t := 82) dX4_guess_77 (by decide) (by omega) (fun c_77 => ?_) (fun c_77 => ?_)
                · skip
                  have hcan : canGs I f c v := ⟨by omega, by omega, c_77⟩
                  refine x_aload_n dX4_guess_82 rfl ?_
                  refine m_cw0 (c_remembers h17) fX4_remembers q2362 (by decide) (Nat.le_of_ble_eq_true rfl) dX4_guess_83 ?_
                  refine x_aload_n dX4_guess_86 rfl ?_
                  refine m_getA (kf := 15) 15 (a := 369) (by decide) rfl rfl q2130 rfl rfl dX4_guess_87 ?_
                  refine x_iconst dX4_guess_90 ?_
                  refine x_iload_n dX4_guess_91 rfl ?_
                  refine x_iadd dX4_guess_92 ?_
                  refine x_iload dX4_guess_93 rfl ?_
                  refine m_iast (n := 460) rfl rfl (by decide) (by omega) dX4_guess_95 ?_
                  refine x_aload_n dX4_guess_96 rfl ?_
                  refine m_ew0 (c_lays (I := mGs I f c v) (LyOK_gs h.1 hcan) (Or.inl (by unfold mGs; rw [rr_u2_ne _ _ (by omega), mRem_45]))) fX4_lays q2398 (by decide) (Nat.le_of_ble_eq_true rfl) dX4_guess_97 (fun J hJ => ?_)
                  have e4 : J 360 4 = I 360 4 := by rw [hJ.1.2 4 (by decide)]; unfold mGs; rw [rr_u2_ne _ _ (by omega), mRem_f I (by decide) (by decide)]
                  have hLd := hJ.2.1
                  have hgs := GsOK_eqx (LyOK_gs h.1 hcan).2.2.2.2.2.2 (hJ.1.1 369 (by decide) (by decide))
                  refine x_aload_n dX4_guess_100 rfl ?_
                  refine m_cv0 (c_disputedMany (by omega) hLd hgs) fX4_disputedMany q2513 (by decide) (Nat.le_of_ble_eq_true rfl) dX4_guess_101 ?_
                  refine x_iret rfl dX4_guess_104 (Nat.le_refl _) (Nat.le_refl _) ?_
                  exact ⟨_, rfl, rfl, _, rfl, Or.inr ⟨hcan, hJ, rfl⟩⟩
                · skip
                  refine x_iconst dX4_guess_80 ?_
                  refine x_iret rfl dX4_guess_81 (Nat.le_refl _) (Nat.le_refl _) ?_
                  exact ⟨_, rfl, rfl, _, rfl, Or.inl ⟨fun z => z.2.2 c_77, rfl, rfl⟩⟩
              · skip
                have hn2 : c = -1 ∧ v = -1 := Classical.byContradiction fun z => c_53 (bi_f z)
                refine x_iconst dX4_guess_56 ?_
                refine x_goto (t := 65) dX4_guess_57 (by decide) ?_
                refine x_top (gsOf c v) (by unfold gsOf; first | rw [if_pos hn2] | rw [if_neg hn2]) ?_
                have hgf := hgs f (by omega) (by omega)
                have hgi : -1 ≤ gsOf c v ∧ gsOf c v < 50 := by unfold gsOf; split <;> omega
                refine x_istore dX4_guess_65 (by decide) ?_
                refine x_aload_n dX4_guess_67 rfl ?_
                refine m_getA (kf := 15) 15 (a := 369) (by decide) rfl rfl q2130 rfl rfl dX4_guess_68 ?_
                refine x_iconst dX4_guess_71 ?_
                refine x_iload_n dX4_guess_72 rfl ?_
                refine x_iadd dX4_guess_73 ?_
                refine m_iald (n := 460) rfl rfl (by decide) (by omega) dX4_guess_74 ?_
                refine x_iload dX4_guess_75 rfl ?_
                refine x_icmp_ne (t := 82) dX4_guess_77 (by decide) (by omega) (fun c_77 => ?_) (fun c_77 => ?_)
                · skip
                  have hcan : canGs I f c v := ⟨by omega, by omega, c_77⟩
                  refine x_aload_n dX4_guess_82 rfl ?_
                  refine m_cw0 (c_remembers h17) fX4_remembers q2362 (by decide) (Nat.le_of_ble_eq_true rfl) dX4_guess_83 ?_
                  refine x_aload_n dX4_guess_86 rfl ?_
                  refine m_getA (kf := 15) 15 (a := 369) (by decide) rfl rfl q2130 rfl rfl dX4_guess_87 ?_
                  refine x_iconst dX4_guess_90 ?_
                  refine x_iload_n dX4_guess_91 rfl ?_
                  refine x_iadd dX4_guess_92 ?_
                  refine x_iload dX4_guess_93 rfl ?_
                  refine m_iast (n := 460) rfl rfl (by decide) (by omega) dX4_guess_95 ?_
                  refine x_aload_n dX4_guess_96 rfl ?_
                  refine m_ew0 (c_lays (I := mGs I f c v) (LyOK_gs h.1 hcan) (Or.inl (by unfold mGs; rw [rr_u2_ne _ _ (by omega), mRem_45]))) fX4_lays q2398 (by decide) (Nat.le_of_ble_eq_true rfl) dX4_guess_97 (fun J hJ => ?_)
                  have e4 : J 360 4 = I 360 4 := by rw [hJ.1.2 4 (by decide)]; unfold mGs; rw [rr_u2_ne _ _ (by omega), mRem_f I (by decide) (by decide)]
                  have hLd := hJ.2.1
                  have hgs := GsOK_eqx (LyOK_gs h.1 hcan).2.2.2.2.2.2 (hJ.1.1 369 (by decide) (by decide))
                  refine x_aload_n dX4_guess_100 rfl ?_
                  refine m_cv0 (c_disputedMany (by omega) hLd hgs) fX4_disputedMany q2513 (by decide) (Nat.le_of_ble_eq_true rfl) dX4_guess_101 ?_
                  refine x_iret rfl dX4_guess_104 (Nat.le_refl _) (Nat.le_refl _) ?_
                  exact ⟨_, rfl, rfl, _, rfl, Or.inr ⟨hcan, hJ, rfl⟩⟩
                · skip
                  refine x_iconst dX4_guess_80 ?_
                  refine x_iret rfl dX4_guess_81 (Nat.le_refl _) (Nat.le_refl _) ?_
                  exact ⟨_, rfl, rfl, _, rfl, Or.inl ⟨fun z => z.2.2 c_77, rfl, rfl⟩⟩
            · skip
              refine x_iconst dX4_guess_49 ?_
              refine x_iret rfl dX4_guess_50 (Nat.le_refl _) (Nat.le_refl _) ?_
              exact ⟨_, rfl, rfl, _, rfl, Or.inl ⟨fun z => by have := z.1; have := z.2.1; omega, rfl, rfl⟩⟩
    · skip
      refine x_iconst dX4_guess_10 ?_
      refine x_goto (t := 15) dX4_guess_11 (by decide) ?_
      refine x_top (bi (c = -1 ∧ v = -1)) (by first | exact (bi_t (by omega)).symm | exact (bi_f (by omega)).symm) ?_
      refine x_istore dX4_guess_15 (by decide) ?_
      refine x_aload_n dX4_guess_17 rfl ?_
      refine x_iload_n dX4_guess_18 rfl ?_
      refine m_cv1 (c_isForm (by omega) (by assumption)) fX4_isForm q2382 (by decide) (Nat.le_of_ble_eq_true rfl) dX4_guess_19 ?_
      refine x_if_eq_b (t := 49) dX4_guess_22 (by decide) (fun c_22 => ?_) (fun c_22 => ?_)
      · skip
        refine x_iconst dX4_guess_49 ?_
        refine x_iret rfl dX4_guess_50 (Nat.le_refl _) (Nat.le_refl _) ?_
        exact ⟨_, rfl, rfl, _, rfl, Or.inl ⟨fun z => by have := z.1; have := z.2.1; omega, rfl, rfl⟩⟩
      · skip
        refine x_iload dX4_guess_25 rfl ?_
        refine x_if_ne (t := 51) dX4_guess_27 (by decide) (by omega) (fun c_27 => ?_) (fun c_27 => ?_)
        · skip
          have hnn : c = -1 ∧ v = -1 := Classical.byContradiction fun z => c_27 (bi_f z)
          refine x_iload dX4_guess_51 rfl ?_
          refine x_if_eq (t := 60) dX4_guess_53 (by decide) (by omega) (fun c_53 => ?_) (fun c_53 => ?_)
          · skip
            have hn2 : ¬ (c = -1 ∧ v = -1) := fun z => by rw [bi_t z] at c_53; omega
            refine x_iconst dX4_guess_60 ?_
            refine x_iload_n dX4_guess_61 rfl ?_
            refine x_imul dX4_guess_62 ?_
            refine x_iload_n dX4_guess_63 rfl ?_
            refine x_iadd dX4_guess_64 ?_
            refine x_top (gsOf c v) (by unfold gsOf; first | rw [if_pos hn2] | rw [if_neg hn2]) ?_
            have hgf := hgs f (by omega) (by omega)
            have hgi : -1 ≤ gsOf c v ∧ gsOf c v < 50 := by unfold gsOf; split <;> omega
            refine x_istore dX4_guess_65 (by decide) ?_
            refine x_aload_n dX4_guess_67 rfl ?_
            refine m_getA (kf := 15) 15 (a := 369) (by decide) rfl rfl q2130 rfl rfl dX4_guess_68 ?_
            refine x_iconst dX4_guess_71 ?_
            refine x_iload_n dX4_guess_72 rfl ?_
            refine x_iadd dX4_guess_73 ?_
            refine m_iald (n := 460) rfl rfl (by decide) (by omega) dX4_guess_74 ?_
            refine x_iload dX4_guess_75 rfl ?_
            refine x_icmp_ne (t := 82) dX4_guess_77 (by decide) (by omega) (fun c_77 => ?_) (fun c_77 => ?_)
            · skip
              have hcan : canGs I f c v := ⟨by omega, by omega, c_77⟩
              refine x_aload_n dX4_guess_82 rfl ?_
              refine m_cw0 (c_remembers h17) fX4_remembers q2362 (by decide) (Nat.le_of_ble_eq_true rfl) dX4_guess_83 ?_
              refine x_aload_n dX4_guess_86 rfl ?_
              refine m_getA (kf := 15) 15 (a := 369) (by decide) rfl rfl q2130 rfl rfl dX4_guess_87 ?_
              refine x_iconst dX4_guess_90 ?_
              refine x_iload_n dX4_guess_91 rfl ?_
              refine x_iadd dX4_guess_92 ?_
              refine x_iload dX4_guess_93 rfl ?_
              refine m_iast (n := 460) rfl rfl (by decide) (by omega) dX4_guess_95 ?_
              refine x_aload_n dX4_guess_96 rfl ?_
              refine m_ew0 (c_lays (I := mGs I f c v) (LyOK_gs h.1 hcan) (Or.inl (by unfold mGs; rw [rr_u2_ne _ _ (by omega), mRem_45]))) fX4_lays q2398 (by decide) (Nat.le_of_ble_eq_true rfl) dX4_guess_97 (fun J hJ => ?_)
              have e4 : J 360 4 = I 360 4 := by rw [hJ.1.2 4 (by decide)]; unfold mGs; rw [rr_u2_ne _ _ (by omega), mRem_f I (by decide) (by decide)]
              have hLd := hJ.2.1
              have hgs := GsOK_eqx (LyOK_gs h.1 hcan).2.2.2.2.2.2 (hJ.1.1 369 (by decide) (by decide))
              refine x_aload_n dX4_guess_100 rfl ?_
              refine m_cv0 (c_disputedMany (by omega) hLd hgs) fX4_disputedMany q2513 (by decide) (Nat.le_of_ble_eq_true rfl) dX4_guess_101 ?_
              refine x_iret rfl dX4_guess_104 (Nat.le_refl _) (Nat.le_refl _) ?_
              exact ⟨_, rfl, rfl, _, rfl, Or.inr ⟨hcan, hJ, rfl⟩⟩
            · skip
              refine x_iconst dX4_guess_80 ?_
              refine x_iret rfl dX4_guess_81 (Nat.le_refl _) (Nat.le_refl _) ?_
              exact ⟨_, rfl, rfl, _, rfl, Or.inl ⟨fun z => z.2.2 c_77, rfl, rfl⟩⟩
          · skip
            have hn2 : c = -1 ∧ v = -1 := Classical.byContradiction fun z => c_53 (bi_f z)
            refine x_iconst dX4_guess_56 ?_
            refine x_goto (t := 65) dX4_guess_57 (by decide) ?_
            refine x_top (gsOf c v) (by unfold gsOf; first | rw [if_pos hn2] | rw [if_neg hn2]) ?_
            have hgf := hgs f (by omega) (by omega)
            have hgi : -1 ≤ gsOf c v ∧ gsOf c v < 50 := by unfold gsOf; split <;> omega
            refine x_istore dX4_guess_65 (by decide) ?_
            refine x_aload_n dX4_guess_67 rfl ?_
            refine m_getA (kf := 15) 15 (a := 369) (by decide) rfl rfl q2130 rfl rfl dX4_guess_68 ?_
            refine x_iconst dX4_guess_71 ?_
            refine x_iload_n dX4_guess_72 rfl ?_
            refine x_iadd dX4_guess_73 ?_
            refine m_iald (n := 460) rfl rfl (by decide) (by omega) dX4_guess_74 ?_
            refine x_iload dX4_guess_75 rfl ?_
            refine x_icmp_ne (t := 82) dX4_guess_77 (by decide) (by omega) (fun c_77 => ?_) (fun c_77 => ?_)
            · skip
              have hcan : canGs I f c v := ⟨by omega, by omega, c_77⟩
              refine x_aload_n dX4_guess_82 rfl ?_
              refine m_cw0 (c_remembers h17) fX4_remembers q2362 (by decide) (Nat.le_of_ble_eq_true rfl) dX4_guess_83 ?_
              refine x_aload_n dX4_guess_86 rfl ?_
              refine m_getA (kf := 15) 15 (a := 369) (by decide) rfl rfl q2130 rfl rfl dX4_guess_87 ?_
              refine x_iconst dX4_guess_90 ?_
              refine x_iload_n dX4_guess_91 rfl ?_
              refine x_iadd dX4_guess_92 ?_
              refine x_iload dX4_guess_93 rfl ?_
              refine m_iast (n := 460) rfl rfl (by decide) (by omega) dX4_guess_95 ?_
              refine x_aload_n dX4_guess_96 rfl ?_
              refine m_ew0 (c_lays (I := mGs I f c v) (LyOK_gs h.1 hcan) (Or.inl (by unfold mGs; rw [rr_u2_ne _ _ (by omega), mRem_45]))) fX4_lays q2398 (by decide) (Nat.le_of_ble_eq_true rfl) dX4_guess_97 (fun J hJ => ?_)
              have e4 : J 360 4 = I 360 4 := by rw [hJ.1.2 4 (by decide)]; unfold mGs; rw [rr_u2_ne _ _ (by omega), mRem_f I (by decide) (by decide)]
              have hLd := hJ.2.1
              have hgs := GsOK_eqx (LyOK_gs h.1 hcan).2.2.2.2.2.2 (hJ.1.1 369 (by decide) (by decide))
              refine x_aload_n dX4_guess_100 rfl ?_
              refine m_cv0 (c_disputedMany (by omega) hLd hgs) fX4_disputedMany q2513 (by decide) (Nat.le_of_ble_eq_true rfl) dX4_guess_101 ?_
              refine x_iret rfl dX4_guess_104 (Nat.le_refl _) (Nat.le_refl _) ?_
              exact ⟨_, rfl, rfl, _, rfl, Or.inr ⟨hcan, hJ, rfl⟩⟩
            · skip
              refine x_iconst dX4_guess_80 ?_
              refine x_iret rfl dX4_guess_81 (Nat.le_refl _) (Nat.le_refl _) ?_
              exact ⟨_, rfl, rfl, _, rfl, Or.inl ⟨fun z => z.2.2 c_77, rfl, rfl⟩⟩
        · skip
          have hnn : ¬ (c = -1 ∧ v = -1) := fun z => by rw [bi_t z] at c_27; omega
          refine x_iload_n dX4_guess_30 rfl ?_
          refine x_iconst dX4_guess_31 ?_
          refine x_bipush dX4_guess_32 (by decide) ?_
          refine m_cs3 (c_in (by omega) (by omega) (by omega)) fX4_in q2299 (by decide) (Nat.le_of_ble_eq_true rfl) dX4_guess_34 ?_
          refine x_if_eq_b (t := 49) dX4_guess_37 (by decide) (fun c_37 => ?_) (fun c_37 => ?_)
          · skip
            refine x_iconst dX4_guess_49 ?_
            refine x_iret rfl dX4_guess_50 (Nat.le_refl _) (Nat.le_refl _) ?_
            exact ⟨_, rfl, rfl, _, rfl, Or.inl ⟨fun z => by have := z.1; have := z.2.1; omega, rfl, rfl⟩⟩
          · skip
            refine x_iload_n dX4_guess_40 rfl ?_
            refine x_iconst dX4_guess_41 ?_
            refine x_iconst dX4_guess_42 ?_
            refine m_cs3 (c_in (by omega) (by omega) (by omega)) fX4_in q2299 (by decide) (Nat.le_of_ble_eq_true rfl) dX4_guess_43 ?_
            refine x_if_ne_b (t := 51) dX4_guess_46 (by decide) (fun c_46 => ?_) (fun c_46 => ?_)
            · skip
              refine x_iload dX4_guess_51 rfl ?_
              refine x_if_eq (t := 60) dX4_guess_53 (by decide) (by omega) (fun c_53 => ?_) (fun c_53 => ?_)
              · skip
                have hn2 : ¬ (c = -1 ∧ v = -1) := fun z => by rw [bi_t z] at c_53; omega
                refine x_iconst dX4_guess_60 ?_
                refine x_iload_n dX4_guess_61 rfl ?_
                refine x_imul dX4_guess_62 ?_
                refine x_iload_n dX4_guess_63 rfl ?_
                refine x_iadd dX4_guess_64 ?_
                refine x_top (gsOf c v) (by unfold gsOf; first | rw [if_pos hn2] | rw [if_neg hn2]) ?_
                have hgf := hgs f (by omega) (by omega)
                have hgi : -1 ≤ gsOf c v ∧ gsOf c v < 50 := by unfold gsOf; split <;> omega
                refine x_istore dX4_guess_65 (by decide) ?_
                refine x_aload_n dX4_guess_67 rfl ?_
                refine m_getA (kf := 15) 15 (a := 369) (by decide) rfl rfl q2130 rfl rfl dX4_guess_68 ?_
                refine x_iconst dX4_guess_71 ?_
                refine x_iload_n dX4_guess_72 rfl ?_
                refine x_iadd dX4_guess_73 ?_
                refine m_iald (n := 460) rfl rfl (by decide) (by omega) dX4_guess_74 ?_
                refine x_iload dX4_guess_75 rfl ?_
                refine x_icmp_ne (t := 82) dX4_guess_77 (by decide) (by omega) (fun c_77 => ?_) (fun c_77 => ?_)
                · skip
                  have hcan : canGs I f c v := ⟨by omega, by omega, c_77⟩
                  refine x_aload_n dX4_guess_82 rfl ?_
                  refine m_cw0 (c_remembers h17) fX4_remembers q2362 (by decide) (Nat.le_of_ble_eq_true rfl) dX4_guess_83 ?_
                  refine x_aload_n dX4_guess_86 rfl ?_
                  refine m_getA (kf := 15) 15 (a := 369) (by decide) rfl rfl q2130 rfl rfl dX4_guess_87 ?_
                  refine x_iconst dX4_guess_90 ?_
                  refine x_iload_n dX4_guess_91 rfl ?_
                  refine x_iadd dX4_guess_92 ?_
                  refine x_iload dX4_guess_93 rfl ?_
                  refine m_iast (n := 460) rfl rfl (by decide) (by omega) dX4_guess_95 ?_
                  refine x_aload_n dX4_guess_96 rfl ?_
                  refine m_ew0 (c_lays (I := mGs I f c v) (LyOK_gs h.1 hcan) (Or.inl (by unfold mGs; rw [rr_u2_ne _ _ (by omega), mRem_45]))) fX4_lays q2398 (by decide) (Nat.le_of_ble_eq_true rfl) dX4_guess_97 (fun J hJ => ?_)
                  have e4 : J 360 4 = I 360 4 := by rw [hJ.1.2 4 (by decide)]; unfold mGs; rw [rr_u2_ne _ _ (by omega), mRem_f I (by decide) (by decide)]
                  have hLd := hJ.2.1
                  have hgs := GsOK_eqx (LyOK_gs h.1 hcan).2.2.2.2.2.2 (hJ.1.1 369 (by decide) (by decide))
                  refine x_aload_n dX4_guess_100 rfl ?_
                  refine m_cv0 (c_disputedMany (by omega) hLd hgs) fX4_disputedMany q2513 (by decide) (Nat.le_of_ble_eq_true rfl) dX4_guess_101 ?_
                  refine x_iret rfl dX4_guess_104 (Nat.le_refl _) (Nat.le_refl _) ?_
                  exact ⟨_, rfl, rfl, _, rfl, Or.inr ⟨hcan, hJ, rfl⟩⟩
                · skip
                  refine x_iconst dX4_guess_80 ?_
                  refine x_iret rfl dX4_guess_81 (Nat.le_refl _) (Nat.le_refl _) ?_
                  exact ⟨_, rfl, rfl, _, rfl, Or.inl ⟨fun z => z.2.2 c_77, rfl, rfl⟩⟩
              · skip
                have hn2 : c = -1 ∧ v = -1 := Classical.byContradiction fun z => c_53 (bi_f z)
                refine x_iconst dX4_guess_56 ?_
                refine x_goto (t := 65) dX4_guess_57 (by decide) ?_
                refine x_top (gsOf c v) (by unfold gsOf; first | rw [if_pos hn2] | rw [if_neg hn2]) ?_
                have hgf := hgs f (by omega) (by omega)
                have hgi : -1 ≤ gsOf c v ∧ gsOf c v < 50 := by unfold gsOf; split <;> omega
                refine x_istore dX4_guess_65 (by decide) ?_
                refine x_aload_n dX4_guess_67 rfl ?_
                refine m_getA (kf := 15) 15 (a := 369) (by decide) rfl rfl q2130 rfl rfl dX4_guess_68 ?_
                refine x_iconst dX4_guess_71 ?_
                refine x_iload_n dX4_guess_72 rfl ?_
                refine x_iadd dX4_guess_73 ?_
                refine m_iald (n := 460) rfl rfl (by decide) (by omega) dX4_guess_74 ?_
                refine x_iload dX4_guess_75 rfl ?_
                refine x_icmp_ne (t := 82) dX4_guess_77 (by decide) (by omega) (fun c_77 => ?_) (fun c_77 => ?_)
                · skip
                  have hcan : canGs I f c v := ⟨by omega, by omega, c_77⟩
                  refine x_aload_n dX4_guess_82 rfl ?_
                  refine m_cw0 (c_remembers h17) fX4_remembers q2362 (by decide) (Nat.le_of_ble_eq_true rfl) dX4_guess_83 ?_
                  refine x_aload_n dX4_guess_86 rfl ?_
                  refine m_getA (kf := 15) 15 (a := 369) (by decide) rfl rfl q2130 rfl rfl dX4_guess_87 ?_
                  refine x_iconst dX4_guess_90 ?_
                  refine x_iload_n dX4_guess_91 rfl ?_
                  refine x_iadd dX4_guess_92 ?_
                  refine x_iload dX4_guess_93 rfl ?_
                  refine m_iast (n := 460) rfl rfl (by decide) (by omega) dX4_guess_95 ?_
                  refine x_aload_n dX4_guess_96 rfl ?_
                  refine m_ew0 (c_lays (I := mGs I f c v) (LyOK_gs h.1 hcan) (Or.inl (by unfold mGs; rw [rr_u2_ne _ _ (by omega), mRem_45]))) fX4_lays q2398 (by decide) (Nat.le_of_ble_eq_true rfl) dX4_guess_97 (fun J hJ => ?_)
                  have e4 : J 360 4 = I 360 4 := by rw [hJ.1.2 4 (by decide)]; unfold mGs; rw [rr_u2_ne _ _ (by omega), mRem_f I (by decide) (by decide)]
                  have hLd := hJ.2.1
                  have hgs := GsOK_eqx (LyOK_gs h.1 hcan).2.2.2.2.2.2 (hJ.1.1 369 (by decide) (by decide))
                  refine x_aload_n dX4_guess_100 rfl ?_
                  refine m_cv0 (c_disputedMany (by omega) hLd hgs) fX4_disputedMany q2513 (by decide) (Nat.le_of_ble_eq_true rfl) dX4_guess_101 ?_
                  refine x_iret rfl dX4_guess_104 (Nat.le_refl _) (Nat.le_refl _) ?_
                  exact ⟨_, rfl, rfl, _, rfl, Or.inr ⟨hcan, hJ, rfl⟩⟩
                · skip
                  refine x_iconst dX4_guess_80 ?_
                  refine x_iret rfl dX4_guess_81 (Nat.le_refl _) (Nat.le_refl _) ?_
                  exact ⟨_, rfl, rfl, _, rfl, Or.inl ⟨fun z => z.2.2 c_77, rfl, rfl⟩⟩
            · skip
              refine x_iconst dX4_guess_49 ?_
              refine x_iret rfl dX4_guess_50 (Nat.le_refl _) (Nat.le_refl _) ?_
              exact ⟨_, rfl, rfl, _, rfl, Or.inl ⟨fun z => by have := z.1; have := z.2.1; omega, rfl, rfl⟩⟩
