set_option maxRecDepth 100000
/-! THE MODEL's methods, 42: names -/
theorem nmL_eq_iff {J : Nat → Int → Int} {k n : Int} (hk : 0 ≤ J 367 k) (hn : J 367 k = J 367 n) : nmL J k = nmL J n ↔ ∀ i : Nat, (i : Int) < J 367 k → J 368 (7 * k + i) = J 368 (7 * n + i) := by
  constructor
  · intro h i hi
    rw [← nmL_get J k (k := i) (by omega), ← nmL_get J n (k := i) (by omega), h]
  · intro h
    unfold nmL
    rw [← hn]
    apply List.map_congr_left
    intro i hi
    rw [List.mem_range] at hi
    exact h i (by omega)
theorem c_isNameTold {J : Nat → Int → Int} (hN : NmOK J) (h3 : J 360 12 ≤ 3) (hl : 0 ≤ J 367 (J 360 12) ∧ J 367 (J 360 12) ≤ 7) (hv : ∀ i, 0 ≤ i → i < J 367 (J 360 12) → 0 ≤ J 368 (7 * J 360 12 + i) ∧ J 368 (7 * J 360 12 + i) < 50) : mC yX4_isNameTold cX4_isNameTold 4 (some FieldType.boolean) 0 [vR (some 360)] J (some (vI (bi (∃ k : Nat, (k : Int) < J 360 12 ∧ nmL J k = nmL J (J 360 12))))) J := by
  have h12 := hN.1
  refine mC.of (by decide) rfl (Nat.le_of_ble_eq_true rfl) (fun G nx => ?_)
  refine x_ls (ls2 := [some (vR (some 360)), none, none, none]) rfl ?_
  refine x_iconst dX4_isNameTold_0 ?_
  refine x_istore_n dX4_isNameTold_1 (by decide) ?_
  refine x_loc (ls2 := [some (vR (some 360)), some (vI ((0 : Nat) : Int)), none, none]) (by repeat first | exact trivial | refine ⟨Or.inr rfl, ?_⟩ | refine ⟨Or.inl rfl, ?_⟩) ?_
  refine rr_ind (W := fun k : Nat => mm G yX4_isNameTold cX4_isNameTold 4 (some FieldType.boolean) 0 nx _ _ 2 [some (vR (some 360)), some (vI (k : Int)), none, none] [] J) (fun k => (J 360 12).toNat - k) (fun k => (k : Int) ≤ J 360 12 ∧ ∀ j : Nat, j < k → nmL J j ≠ nmL J (J 360 12)) ?_ 0 ⟨by omega, fun j hj => by omega⟩
  rintro k ⟨hk, hno⟩ ih
  refine x_iload_n dX4_isNameTold_2 rfl ?_
  refine x_aload_n dX4_isNameTold_3 rfl ?_
  refine m_getI (kf := 12) 12 (by decide) rfl rfl q2127 rfl dX4_isNameTold_4 ?_
  refine x_icmp_ge (t := 102) dX4_isNameTold_7 (by decide) (by omega) (fun c_7 => ?_) (fun c_7 => ?_)
  · skip
    refine x_iconst dX4_isNameTold_102 ?_
    refine x_zret rfl dX4_isNameTold_103 (by first | exact Or.inl rfl | exact Or.inr rfl | exact bi_01 _ | omega) (Nat.le_refl _) (Nat.le_refl _) ?_
    exact ⟨rF (fun ⟨j, j1, j2⟩ => hno j (by omega) j2), rfl, rfl⟩
  · skip
    obtain ⟨hkl, hkv⟩ := hN.2 k (by omega) (by omega)
    refine x_aload_n dX4_isNameTold_10 rfl ?_
    refine m_getA (kf := 13) 13 (a := 367) (by decide) rfl rfl q2128 rfl rfl dX4_isNameTold_11 ?_
    refine x_iload_n dX4_isNameTold_14 rfl ?_
    refine m_iald (n := 5) rfl rfl (by decide) (by omega) dX4_isNameTold_15 ?_
    refine x_aload_n dX4_isNameTold_16 rfl ?_
    refine m_getA (kf := 13) 13 (a := 367) (by decide) rfl rfl q2128 rfl rfl dX4_isNameTold_17 ?_
    refine x_aload_n dX4_isNameTold_20 rfl ?_
    refine m_getI (kf := 12) 12 (by decide) rfl rfl q2127 rfl dX4_isNameTold_21 ?_
    refine m_iald (n := 5) rfl rfl (by decide) (by omega) dX4_isNameTold_24 ?_
    refine x_icmp_ne (t := 32) dX4_isNameTold_25 (by decide) (by omega) (fun c_25 => ?_) (fun c_25 => ?_)
    · skip
      refine x_iconst dX4_isNameTold_32 ?_
      refine x_top (bi (J 367 k = J 367 (J 360 12))) (by first | exact (bi_t c_25).symm | exact (bi_f c_25).symm) ?_
      refine x_istore_n dX4_isNameTold_33 (by decide) ?_
      refine x_iconst dX4_isNameTold_34 ?_
      refine x_istore_n dX4_isNameTold_35 (by decide) ?_
      have hgo : nmL J k ≠ nmL J (J 360 12) → mm G yX4_isNameTold cX4_isNameTold 4 (some FieldType.boolean) 0 nx _ _ 2 [some (vR (some 360)), some (vI ((k + 1 : Nat) : Int)), none, none] [] J := fun z => ih (k + 1) ⟨by omega, fun j hj => by
        by_cases e : j = k
        · rw [e]; exact z
        · exact hno j (by omega)⟩ (by omega)
      have hlen : nmL J k = nmL J (J 360 12) → J 367 k = J 367 (J 360 12) := fun z => by
        have := congrArg List.length z
        rw [nmL_len, nmL_len] at this
        omega
      have hiff := fun e => nmL_eq_iff (J := J) (k := (k : Int)) (n := J 360 12) (by omega) e
      have hb01 := bi_01 (J 367 k = J 367 (J 360 12))
      refine x_loc (ls2 := [some (vR (some 360)), some (vI (k : Int)), some (vI (((0 : Nat), bi (J 367 k = J 367 (J 360 12))) : Nat × Int).2), some (vI ((((0 : Nat), bi (J 367 k = J 367 (J 360 12))) : Nat × Int).1 : Int))]) (by repeat first | exact trivial | refine ⟨Or.inr rfl, ?_⟩ | refine ⟨Or.inl rfl, ?_⟩) ?_
      refine rr_ind (W := fun s : Nat × Int => mm G yX4_isNameTold cX4_isNameTold 4 (some FieldType.boolean) 0 nx _ _ 36 [some (vR (some 360)), some (vI (k : Int)), some (vI s.2), some (vI (s.1 : Int))] [] J) (fun s => (J 367 k).toNat - s.1) (fun s => (s.1 : Int) ≤ J 367 k ∧ ((s.2 = 1 ∧ J 367 k = J 367 (J 360 12) ∧ ∀ i : Nat, i < s.1 → J 368 (7 * k + i) = J 368 (7 * J 360 12 + i)) ∨ (s.2 = 0 ∧ nmL J k ≠ nmL J (J 360 12)))) ?_ ((0 : Nat), bi (J 367 k = J 367 (J 360 12))) ⟨by simp only; omega, by
        by_cases e : J 367 k = J 367 (J 360 12)
        · exact Or.inl ⟨bi_t e, e, fun i hi => by simp only at hi; omega⟩
        · exact Or.inr ⟨bi_f e, fun z => e (hlen z)⟩⟩
      rintro ⟨i, e⟩ ⟨hi, hc⟩ ih2
      simp only at hi hc ih2
      dsimp only
      have he01 : e = 0 ∨ e = 1 := hc.elim (fun z => Or.inr z.1) (fun z => Or.inl z.1)
      refine x_iload_n dX4_isNameTold_36 rfl ?_
      refine x_aload_n dX4_isNameTold_37 rfl ?_
      refine m_getA (kf := 13) 13 (a := 367) (by decide) rfl rfl q2128 rfl rfl dX4_isNameTold_38 ?_
      refine x_iload_n dX4_isNameTold_41 rfl ?_
      refine m_iald (n := 5) rfl rfl (by decide) (by omega) dX4_isNameTold_42 ?_
      refine x_icmp_ge (t := 90) dX4_isNameTold_43 (by decide) (by omega) (fun c_43 => ?_) (fun c_43 => ?_)
      · skip
        refine x_iload_n dX4_isNameTold_90 rfl ?_
        refine x_if_eq (t := 96) dX4_isNameTold_91 (by decide) (by omega) (fun c_91 => ?_) (fun c_91 => ?_)
        · skip
          have hne : nmL J k ≠ nmL J (J 360 12) := (hc.resolve_left (fun z => by have := z.1; omega)).2
          refine x_iinc dX4_isNameTold_96 rfl (by decide) ?_
          refine x_goto (t := 2) dX4_isNameTold_99 (by decide) ?_
          exact x_loc (by rw [show ((k + 1 : Nat) : Int) = (k : Int) + 1 by omega]; exact (by repeat first | exact trivial | refine ⟨Or.inr rfl, ?_⟩ | refine ⟨Or.inl rfl, ?_⟩)) (hgo hne)
        · skip
          refine x_iconst dX4_isNameTold_94 ?_
          refine x_zret rfl dX4_isNameTold_95 (by first | exact Or.inl rfl | exact Or.inr rfl | exact bi_01 _ | omega) (Nat.le_refl _) (Nat.le_refl _) ?_
          obtain ⟨z1, z2, z3⟩ := hc.resolve_right (fun z => c_91 z.1)
          exact ⟨rT ⟨k, by omega, (hiff z2).mpr (fun j hj => z3 j (by omega))⟩, rfl, rfl⟩
      · skip
        refine x_iload_n dX4_isNameTold_46 rfl ?_
        refine x_if_eq (t := 90) dX4_isNameTold_47 (by decide) (by omega) (fun c_47 => ?_) (fun c_47 => ?_)
        · skip
          refine x_iload_n dX4_isNameTold_90 rfl ?_
          refine x_if_eq (t := 96) dX4_isNameTold_91 (by decide) (by omega) (fun _ => ?_) (fun z => absurd c_47 z)
          have hne : nmL J k ≠ nmL J (J 360 12) := (hc.resolve_left (fun z => by have := z.1; omega)).2
          refine x_iinc dX4_isNameTold_96 rfl (by decide) ?_
          refine x_goto (t := 2) dX4_isNameTold_99 (by decide) ?_
          exact x_loc (by rw [show ((k + 1 : Nat) : Int) = (k : Int) + 1 by omega]; exact (by repeat first | exact trivial | refine ⟨Or.inr rfl, ?_⟩ | refine ⟨Or.inl rfl, ?_⟩)) (hgo hne)
        · skip
          obtain ⟨z1, z2, z3⟩ := hc.resolve_right (fun z => c_47 z.1)
          have v1 := hkv i (by omega) (by omega)
          have v2 := hv i (by omega) (by omega)
          refine x_aload_n dX4_isNameTold_50 rfl ?_
          refine m_getA (kf := 14) 14 (a := 368) (by decide) rfl rfl q2129 rfl rfl dX4_isNameTold_51 ?_
          refine x_bipush dX4_isNameTold_54 (by decide) ?_
          refine x_iload_n dX4_isNameTold_56 rfl ?_
          refine x_imul dX4_isNameTold_57 ?_
          refine x_iload_n dX4_isNameTold_58 rfl ?_
          refine x_iadd dX4_isNameTold_59 ?_
          refine m_iald (n := 35) rfl rfl (by decide) (by omega) dX4_isNameTold_60 ?_
          refine x_aload_n dX4_isNameTold_61 rfl ?_
          refine m_getA (kf := 14) 14 (a := 368) (by decide) rfl rfl q2129 rfl rfl dX4_isNameTold_62 ?_
          refine x_bipush dX4_isNameTold_65 (by decide) ?_
          refine x_aload_n dX4_isNameTold_67 rfl ?_
          refine m_getI (kf := 12) 12 (by decide) rfl rfl q2127 rfl dX4_isNameTold_68 ?_
          refine x_imul dX4_isNameTold_71 ?_
          refine x_iload_n dX4_isNameTold_72 rfl ?_
          refine x_iadd dX4_isNameTold_73 ?_
          refine m_iald (n := 35) rfl rfl (by decide) (by omega) dX4_isNameTold_74 ?_
          refine x_icmp_ne (t := 82) dX4_isNameTold_75 (by decide) (by omega) (fun c_75 => ?_) (fun c_75 => ?_)
          · skip
            refine x_iconst dX4_isNameTold_82 ?_
            have hgo2 := ih2 (i + 1, 0) ⟨by simp only; omega, Or.inr ⟨rfl, fun z => c_75 ((hiff z2).mp z i (by omega))⟩⟩ (by simp only; omega)
            refine x_istore_n dX4_isNameTold_83 (by decide) ?_
            refine x_iinc dX4_isNameTold_84 rfl (by decide) ?_
            refine x_goto (t := 36) dX4_isNameTold_87 (by decide) ?_
            exact x_loc (by rw [show (((i + 1, 0) : Nat × Int).1 : Int) = (i : Int) + 1 by simp only; omega]; exact (by repeat first | exact trivial | refine ⟨Or.inr rfl, ?_⟩ | refine ⟨Or.inl rfl, ?_⟩)) hgo2
          · skip
            refine x_iconst dX4_isNameTold_78 ?_
            refine x_goto (t := 83) dX4_isNameTold_79 (by decide) ?_
            have hgo2 := ih2 (i + 1, 1) ⟨by simp only; omega, Or.inl ⟨rfl, z2, fun j hj => by
              by_cases ej : j = i
              · rw [ej]; exact c_75
              · exact z3 j (by simp only at hj; omega)⟩⟩ (by simp only; omega)
            refine x_istore_n dX4_isNameTold_83 (by decide) ?_
            refine x_iinc dX4_isNameTold_84 rfl (by decide) ?_
            refine x_goto (t := 36) dX4_isNameTold_87 (by decide) ?_
            exact x_loc (by rw [show (((i + 1, 1) : Nat × Int).1 : Int) = (i : Int) + 1 by simp only; omega]; exact (by repeat first | exact trivial | refine ⟨Or.inr rfl, ?_⟩ | refine ⟨Or.inl rfl, ?_⟩)) hgo2
    · skip
      refine x_iconst dX4_isNameTold_28 ?_
      refine x_goto (t := 33) dX4_isNameTold_29 (by decide) ?_
      refine x_top (bi (J 367 k = J 367 (J 360 12))) (by first | exact (bi_t c_25).symm | exact (bi_f c_25).symm) ?_
      refine x_istore_n dX4_isNameTold_33 (by decide) ?_
      refine x_iconst dX4_isNameTold_34 ?_
      refine x_istore_n dX4_isNameTold_35 (by decide) ?_
      have hgo : nmL J k ≠ nmL J (J 360 12) → mm G yX4_isNameTold cX4_isNameTold 4 (some FieldType.boolean) 0 nx _ _ 2 [some (vR (some 360)), some (vI ((k + 1 : Nat) : Int)), none, none] [] J := fun z => ih (k + 1) ⟨by omega, fun j hj => by
        by_cases e : j = k
        · rw [e]; exact z
        · exact hno j (by omega)⟩ (by omega)
      have hlen : nmL J k = nmL J (J 360 12) → J 367 k = J 367 (J 360 12) := fun z => by
        have := congrArg List.length z
        rw [nmL_len, nmL_len] at this
        omega
      have hiff := fun e => nmL_eq_iff (J := J) (k := (k : Int)) (n := J 360 12) (by omega) e
      have hb01 := bi_01 (J 367 k = J 367 (J 360 12))
      refine x_loc (ls2 := [some (vR (some 360)), some (vI (k : Int)), some (vI (((0 : Nat), bi (J 367 k = J 367 (J 360 12))) : Nat × Int).2), some (vI ((((0 : Nat), bi (J 367 k = J 367 (J 360 12))) : Nat × Int).1 : Int))]) (by repeat first | exact trivial | refine ⟨Or.inr rfl, ?_⟩ | refine ⟨Or.inl rfl, ?_⟩) ?_
      refine rr_ind (W := fun s : Nat × Int => mm G yX4_isNameTold cX4_isNameTold 4 (some FieldType.boolean) 0 nx _ _ 36 [some (vR (some 360)), some (vI (k : Int)), some (vI s.2), some (vI (s.1 : Int))] [] J) (fun s => (J 367 k).toNat - s.1) (fun s => (s.1 : Int) ≤ J 367 k ∧ ((s.2 = 1 ∧ J 367 k = J 367 (J 360 12) ∧ ∀ i : Nat, i < s.1 → J 368 (7 * k + i) = J 368 (7 * J 360 12 + i)) ∨ (s.2 = 0 ∧ nmL J k ≠ nmL J (J 360 12)))) ?_ ((0 : Nat), bi (J 367 k = J 367 (J 360 12))) ⟨by simp only; omega, by
        by_cases e : J 367 k = J 367 (J 360 12)
        · exact Or.inl ⟨bi_t e, e, fun i hi => by simp only at hi; omega⟩
        · exact Or.inr ⟨bi_f e, fun z => e (hlen z)⟩⟩
      rintro ⟨i, e⟩ ⟨hi, hc⟩ ih2
      simp only at hi hc ih2
      dsimp only
      have he01 : e = 0 ∨ e = 1 := hc.elim (fun z => Or.inr z.1) (fun z => Or.inl z.1)
      refine x_iload_n dX4_isNameTold_36 rfl ?_
      refine x_aload_n dX4_isNameTold_37 rfl ?_
      refine m_getA (kf := 13) 13 (a := 367) (by decide) rfl rfl q2128 rfl rfl dX4_isNameTold_38 ?_
      refine x_iload_n dX4_isNameTold_41 rfl ?_
      refine m_iald (n := 5) rfl rfl (by decide) (by omega) dX4_isNameTold_42 ?_
      refine x_icmp_ge (t := 90) dX4_isNameTold_43 (by decide) (by omega) (fun c_43 => ?_) (fun c_43 => ?_)
      · skip
        refine x_iload_n dX4_isNameTold_90 rfl ?_
        refine x_if_eq (t := 96) dX4_isNameTold_91 (by decide) (by omega) (fun c_91 => ?_) (fun c_91 => ?_)
        · skip
          have hne : nmL J k ≠ nmL J (J 360 12) := (hc.resolve_left (fun z => by have := z.1; omega)).2
          refine x_iinc dX4_isNameTold_96 rfl (by decide) ?_
          refine x_goto (t := 2) dX4_isNameTold_99 (by decide) ?_
          exact x_loc (by rw [show ((k + 1 : Nat) : Int) = (k : Int) + 1 by omega]; exact (by repeat first | exact trivial | refine ⟨Or.inr rfl, ?_⟩ | refine ⟨Or.inl rfl, ?_⟩)) (hgo hne)
        · skip
          refine x_iconst dX4_isNameTold_94 ?_
          refine x_zret rfl dX4_isNameTold_95 (by first | exact Or.inl rfl | exact Or.inr rfl | exact bi_01 _ | omega) (Nat.le_refl _) (Nat.le_refl _) ?_
          obtain ⟨z1, z2, z3⟩ := hc.resolve_right (fun z => c_91 z.1)
          exact ⟨rT ⟨k, by omega, (hiff z2).mpr (fun j hj => z3 j (by omega))⟩, rfl, rfl⟩
      · skip
        refine x_iload_n dX4_isNameTold_46 rfl ?_
        refine x_if_eq (t := 90) dX4_isNameTold_47 (by decide) (by omega) (fun c_47 => ?_) (fun c_47 => ?_)
        · skip
          refine x_iload_n dX4_isNameTold_90 rfl ?_
          refine x_if_eq (t := 96) dX4_isNameTold_91 (by decide) (by omega) (fun _ => ?_) (fun z => absurd c_47 z)
          have hne : nmL J k ≠ nmL J (J 360 12) := (hc.resolve_left (fun z => by have := z.1; omega)).2
          refine x_iinc dX4_isNameTold_96 rfl (by decide) ?_
          refine x_goto (t := 2) dX4_isNameTold_99 (by decide) ?_
          exact x_loc (by rw [show ((k + 1 : Nat) : Int) = (k : Int) + 1 by omega]; exact (by repeat first | exact trivial | refine ⟨Or.inr rfl, ?_⟩ | refine ⟨Or.inl rfl, ?_⟩)) (hgo hne)
        · skip
          obtain ⟨z1, z2, z3⟩ := hc.resolve_right (fun z => c_47 z.1)
          have v1 := hkv i (by omega) (by omega)
          have v2 := hv i (by omega) (by omega)
          refine x_aload_n dX4_isNameTold_50 rfl ?_
          refine m_getA (kf := 14) 14 (a := 368) (by decide) rfl rfl q2129 rfl rfl dX4_isNameTold_51 ?_
          refine x_bipush dX4_isNameTold_54 (by decide) ?_
          refine x_iload_n dX4_isNameTold_56 rfl ?_
          refine x_imul dX4_isNameTold_57 ?_
          refine x_iload_n dX4_isNameTold_58 rfl ?_
          refine x_iadd dX4_isNameTold_59 ?_
          refine m_iald (n := 35) rfl rfl (by decide) (by omega) dX4_isNameTold_60 ?_
          refine x_aload_n dX4_isNameTold_61 rfl ?_
          refine m_getA (kf := 14) 14 (a := 368) (by decide) rfl rfl q2129 rfl rfl dX4_isNameTold_62 ?_
          refine x_bipush dX4_isNameTold_65 (by decide) ?_
          refine x_aload_n dX4_isNameTold_67 rfl ?_
          refine m_getI (kf := 12) 12 (by decide) rfl rfl q2127 rfl dX4_isNameTold_68 ?_
          refine x_imul dX4_isNameTold_71 ?_
          refine x_iload_n dX4_isNameTold_72 rfl ?_
          refine x_iadd dX4_isNameTold_73 ?_
          refine m_iald (n := 35) rfl rfl (by decide) (by omega) dX4_isNameTold_74 ?_
          refine x_icmp_ne (t := 82) dX4_isNameTold_75 (by decide) (by omega) (fun c_75 => ?_) (fun c_75 => ?_)
          · skip
            refine x_iconst dX4_isNameTold_82 ?_
            have hgo2 := ih2 (i + 1, 0) ⟨by simp only; omega, Or.inr ⟨rfl, fun z => c_75 ((hiff z2).mp z i (by omega))⟩⟩ (by simp only; omega)
            refine x_istore_n dX4_isNameTold_83 (by decide) ?_
            refine x_iinc dX4_isNameTold_84 rfl (by decide) ?_
            refine x_goto (t := 36) dX4_isNameTold_87 (by decide) ?_
            exact x_loc (by rw [show (((i + 1, 0) : Nat × Int).1 : Int) = (i : Int) + 1 by simp only; omega]; exact (by repeat first | exact trivial | refine ⟨Or.inr rfl, ?_⟩ | refine ⟨Or.inl rfl, ?_⟩)) hgo2
          · skip
            refine x_iconst dX4_isNameTold_78 ?_
            refine x_goto (t := 83) dX4_isNameTold_79 (by decide) ?_
            have hgo2 := ih2 (i + 1, 1) ⟨by simp only; omega, Or.inl ⟨rfl, z2, fun j hj => by
              by_cases ej : j = i
              · rw [ej]; exact c_75
              · exact z3 j (by simp only at hj; omega)⟩⟩ (by simp only; omega)
            refine x_istore_n dX4_isNameTold_83 (by decide) ?_
            refine x_iinc dX4_isNameTold_84 rfl (by decide) ?_
            refine x_goto (t := 36) dX4_isNameTold_87 (by decide) ?_
            exact x_loc (by rw [show (((i + 1, 1) : Nat × Int).1 : Int) = (i : Int) + 1 by simp only; omega]; exact (by repeat first | exact trivial | refine ⟨Or.inr rfl, ?_⟩ | refine ⟨Or.inl rfl, ?_⟩)) hgo2
