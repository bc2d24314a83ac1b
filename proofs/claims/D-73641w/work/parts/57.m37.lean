set_option maxRecDepth 100000
/-! THE MODEL's methods, 37: stems, the parts -/
theorem c_laysPiece {I : Nat → Int → Int} {w n : Int} (hw : 0 ≤ w ∧ w < 240) (hn : 0 ≤ n ∧ n ≤ 6) : mC yX4_laysPiece cX4_laysPiece 4 none 0 [vR (some 360), vI w, vI n] I none (fl I 375 0 n (fun k => I 377 (7 * w + k))) := by
  refine mC.of (by decide) rfl (Nat.le_of_ble_eq_true rfl) (fun G nx => ?_)
  refine x_ls (ls2 := [some (vR (some 360)), some (vI w), some (vI n), none]) rfl ?_
  refine x_iconst dX4_laysPiece_0 ?_
  refine x_istore_n dX4_laysPiece_1 (by decide) ?_
  refine x_h (h2 := mh (fl I 375 0 0 (fun k => I 377 (7 * w + k)))) (by rw [fl_0 _ 375 (by omega)]) ?_
  refine rr_ind (W := fun k => mm G yX4_laysPiece cX4_laysPiece 4 none 0 nx _ _ 2 [some (vR (some 360)), some (vI w), some (vI n), some (vI k)] [] (fl I 375 0 k (fun k => I 377 (7 * w + k)))) (fun k => (n - k).toNat) (fun k => 0 ≤ k ∧ k ≤ n) ?_ 0 (by omega)
  intro k hk ih
  refine x_iload_n dX4_laysPiece_2 rfl ?_
  refine x_iload_n dX4_laysPiece_3 rfl ?_
  refine x_icmp_ge (t := 30) dX4_laysPiece_4 (by decide) (by omega) (fun c_4 => ?_) (fun c_4 => ?_)
  · skip
    refine x_vret rfl dX4_laysPiece_30 (Nat.le_refl _) (Nat.le_refl _) ?_
    exact ⟨rfl, by rw [show k = n by omega], rfl⟩
  · skip
    refine x_aload_n dX4_laysPiece_7 rfl ?_
    refine m_getA (kf := 24) 24 (a := 375) (by decide) rfl rfl q2139 rfl rfl dX4_laysPiece_8 ?_
    refine x_iload_n dX4_laysPiece_11 rfl ?_
    refine x_aload_n dX4_laysPiece_12 rfl ?_
    refine m_getA (kf := 28) 28 (a := 377) (by decide) rfl rfl q2143 rfl rfl dX4_laysPiece_13 ?_
    refine x_bipush dX4_laysPiece_16 (by decide) ?_
    refine x_iload_n dX4_laysPiece_18 rfl ?_
    refine x_imul dX4_laysPiece_19 ?_
    refine x_iload_n dX4_laysPiece_20 rfl ?_
    refine x_iadd dX4_laysPiece_21 ?_
    refine m_iald (n := 1687) rfl rfl (by decide) (by omega) dX4_laysPiece_22 ?_
    rw [fl_o _ _ _ _ _ (by omega)]
    refine m_iast (n := 7) rfl rfl (by decide) (by omega) dX4_laysPiece_23 ?_
    rw [show rr_u2 (fl I 375 0 k (fun k => I 377 (7 * w + k))) 375 k (I 377 (7 * w + k)) = fl I 375 0 (k + 1) (fun k => I 377 (7 * w + k)) from by apply rr_u2_eq; intro x j; simp only [rr_u2, fl]; grind (splits := 20)]
    refine x_iinc dX4_laysPiece_24 rfl (by decide) ?_
    refine x_goto (t := 2) dX4_laysPiece_27 (by decide) ?_
    exact ih (k + 1) (by omega) (by omega)
/-- a word but for its last sign -/
def stm (p : List Int) : List Int := p.take (p.length - 1)
theorem stm_len (p : List Int) : (stm p).length = p.length - 1 := by simp [stm]
theorem stm_get {p : List Int} {k : Nat} (h : k < p.length - 1) : (stm p).getD k 0 = p.getD k 0 := by
  simp only [stm, List.getD_eq_getElem?_getD, List.getElem?_take, if_pos h]
theorem c_isAhead {I : Nat → Int → Int} {L : List (List Int × Int)} {w v : Nat} {p q : List Int × Int} (hW : WE I L) (hL : L.length ≤ 240) (hw : L[w]? = some p) (hv : L[v]? = some q) : mC yX4_isAhead cX4_isAhead 7 (some FieldType.boolean) 0 [vR (some 360), vI (w : Int), vI (v : Int)] I (some (vI (bi (lcmp (stm p.1) (stm q.1) < 0)))) I := by
  have hwl := (List.getElem?_eq_some_iff.mp hw).1
  have hvl := (List.getElem?_eq_some_iff.mp hv).1
  obtain ⟨p1, -, p3⟩ := hW.at hw
  obtain ⟨q1, -, q3⟩ := hW.at hv
  have hp := (hW.2 w p hw).2
  have hq := (hW.2 v q hv).2
  have hp1 := hp.1
  have hq1 := hq.1
  have lp := stm_len p.1
  have lq := stm_len q.1
  refine mC.of (by decide) rfl (Nat.le_of_ble_eq_true rfl) (fun G nx => ?_)
  refine x_ls (ls2 := [some (vR (some 360)), some (vI (w : Int)), some (vI (v : Int)), none, none, none, none]) rfl ?_
  refine x_aload_n dX4_isAhead_0 rfl ?_
  refine m_getA (kf := 27) 27 (a := 376) (by decide) rfl rfl q2142 rfl rfl dX4_isAhead_1 ?_
  refine x_iload_n dX4_isAhead_4 rfl ?_
  refine m_iald (n := 241) rfl rfl (by decide) (by omega) dX4_isAhead_5 ?_
  rw [p1]
  refine x_iconst dX4_isAhead_6 ?_
  refine x_isub dX4_isAhead_7 ?_
  refine x_istore_n dX4_isAhead_8 (by decide) ?_
  refine x_aload_n dX4_isAhead_9 rfl ?_
  refine m_getA (kf := 27) 27 (a := 376) (by decide) rfl rfl q2142 rfl rfl dX4_isAhead_10 ?_
  refine x_iload_n dX4_isAhead_13 rfl ?_
  refine m_iald (n := 241) rfl rfl (by decide) (by omega) dX4_isAhead_14 ?_
  rw [q1]
  refine x_iconst dX4_isAhead_15 ?_
  refine x_isub dX4_isAhead_16 ?_
  refine x_istore dX4_isAhead_17 (by decide) ?_
  refine x_iconst dX4_isAhead_19 ?_
  refine x_istore dX4_isAhead_20 (by decide) ?_
  refine x_loc (ls2 := [some (vR (some 360)), some (vI (w : Int)), some (vI (v : Int)), some (vI ((p.1.length : Int) - 1)), some (vI ((q.1.length : Int) - 1)), some (vI ((0 : Nat) : Int)), none]) (by repeat first | exact trivial | refine ⟨Or.inr rfl, ?_⟩ | refine ⟨Or.inl rfl, ?_⟩) ?_
  refine rr_ind (W := fun k : Nat => mm G yX4_isAhead cX4_isAhead 7 (some FieldType.boolean) 0 nx _ _ 22 [some (vR (some 360)), some (vI (w : Int)), some (vI (v : Int)), some (vI ((p.1.length : Int) - 1)), some (vI ((q.1.length : Int) - 1)), some (vI (k : Int)), none] [] I) (fun k => p.1.length - k) (fun k => (k ≤ p.1.length - 1 ∧ k ≤ q.1.length - 1) ∧ lcmp (stm p.1) (stm q.1) = lcmp ((stm p.1).drop k) ((stm q.1).drop k)) ?_ 0 ⟨by omega, by simp⟩
  rintro k ⟨hk, hlc⟩ ih
  refine x_iload dX4_isAhead_22 rfl ?_
  refine x_iload_n dX4_isAhead_24 rfl ?_
  refine x_icmp_ge (t := 84) dX4_isAhead_25 (by decide) (by omega) (fun c_25 => ?_) (fun c_25 => ?_)
  · skip
    have hlt : lcmp (stm p.1) (stm q.1) = (p.1.length : Int) - 1 - ((q.1.length : Int) - 1) := by
      rw [hlc, List.drop_of_length_le (show (stm p.1).length ≤ k by omega)]
      simp only [lcmp, List.length_drop]
      omega
    refine x_iload_n dX4_isAhead_84 rfl ?_
    refine x_iload dX4_isAhead_85 rfl ?_
    refine x_icmp_ge (t := 94) dX4_isAhead_87 (by decide) (by omega) (fun c_87 => ?_) (fun c_87 => ?_)
    · skip
      refine x_iconst dX4_isAhead_94 ?_
      refine x_zret rfl dX4_isAhead_95 (by first | exact Or.inl rfl | exact Or.inr rfl | exact bi_01 _ | omega) (Nat.le_refl _) (Nat.le_refl _) ?_
      exact ⟨by first | exact rT (by omega) | exact rF (by omega), rfl, rfl⟩
    · skip
      refine x_iconst dX4_isAhead_90 ?_
      refine x_goto (t := 95) dX4_isAhead_91 (by decide) ?_
      refine x_zret rfl dX4_isAhead_95 (by first | exact Or.inl rfl | exact Or.inr rfl | exact bi_01 _ | omega) (Nat.le_refl _) (Nat.le_refl _) ?_
      exact ⟨by first | exact rT (by omega) | exact rF (by omega), rfl, rfl⟩
  · skip
    refine x_iload dX4_isAhead_28 rfl ?_
    refine x_iload dX4_isAhead_30 rfl ?_
    refine x_icmp_ge (t := 84) dX4_isAhead_32 (by decide) (by omega) (fun c_32 => ?_) (fun c_32 => ?_)
    · skip
      have hlt : lcmp (stm p.1) (stm q.1) = (p.1.length : Int) - 1 - ((q.1.length : Int) - 1) := by
        rw [hlc, List.drop_of_length_le (show (stm q.1).length ≤ k by omega), lcmp_nil, List.length_drop]
        omega
      refine x_iload_n dX4_isAhead_84 rfl ?_
      refine x_iload dX4_isAhead_85 rfl ?_
      refine x_icmp_ge (t := 94) dX4_isAhead_87 (by decide) (by omega) (fun c_87 => ?_) (fun c_87 => ?_)
      · skip
        refine x_iconst dX4_isAhead_94 ?_
        refine x_zret rfl dX4_isAhead_95 (by first | exact Or.inl rfl | exact Or.inr rfl | exact bi_01 _ | omega) (Nat.le_refl _) (Nat.le_refl _) ?_
        exact ⟨by first | exact rT (by omega) | exact rF (by omega), rfl, rfl⟩
      · skip
        refine x_iconst dX4_isAhead_90 ?_
        refine x_goto (t := 95) dX4_isAhead_91 (by decide) ?_
        refine x_zret rfl dX4_isAhead_95 (by first | exact Or.inl rfl | exact Or.inr rfl | exact bi_01 _ | omega) (Nat.le_refl _) (Nat.le_refl _) ?_
        exact ⟨by first | exact rT (by omega) | exact rF (by omega), rfl, rfl⟩
    · skip
      have a1 := hp.at (k := k) (by omega)
      have a2 := hq.at (k := k) (by omega)
      rw [drop_cons (show k < (stm p.1).length by omega), drop_cons (show k < (stm q.1).length by omega), stm_get (by omega), stm_get (by omega)] at hlc
      simp only [lcmp] at hlc
      refine x_aload_n dX4_isAhead_35 rfl ?_
      refine m_getA (kf := 28) 28 (a := 377) (by decide) rfl rfl q2143 rfl rfl dX4_isAhead_36 ?_
      refine x_bipush dX4_isAhead_39 (by decide) ?_
      refine x_iload_n dX4_isAhead_41 rfl ?_
      refine x_imul dX4_isAhead_42 ?_
      refine x_iload dX4_isAhead_43 rfl ?_
      refine x_iadd dX4_isAhead_45 ?_
      refine m_iald (n := 1687) rfl rfl (by decide) (by omega) dX4_isAhead_46 ?_
      rw [p3 k (by omega)]
      refine x_aload_n dX4_isAhead_47 rfl ?_
      refine m_getA (kf := 28) 28 (a := 377) (by decide) rfl rfl q2143 rfl rfl dX4_isAhead_48 ?_
      refine x_bipush dX4_isAhead_51 (by decide) ?_
      refine x_iload_n dX4_isAhead_53 rfl ?_
      refine x_imul dX4_isAhead_54 ?_
      refine x_iload dX4_isAhead_55 rfl ?_
      refine x_iadd dX4_isAhead_57 ?_
      refine m_iald (n := 1687) rfl rfl (by decide) (by omega) dX4_isAhead_58 ?_
      rw [q3 k (by omega)]
      refine x_isub dX4_isAhead_59 ?_
      refine x_istore dX4_isAhead_60 (by decide) ?_
      refine x_iload dX4_isAhead_62 rfl ?_
      refine x_if_eq (t := 78) dX4_isAhead_64 (by decide) (by omega) (fun c_64 => ?_) (fun c_64 => ?_)
      · skip
        rw [if_pos (by omega)] at hlc
        have hgo := ih (k + 1) ⟨by omega, hlc⟩ (by omega)
        refine x_iinc dX4_isAhead_78 rfl (by decide) ?_
        refine x_goto (t := 22) dX4_isAhead_81 (by decide) ?_
        exact x_loc (by rw [show ((k + 1 : Nat) : Int) = (k : Int) + 1 by omega]; exact (by repeat first | exact trivial | refine ⟨Or.inr rfl, ?_⟩ | refine ⟨Or.inl rfl, ?_⟩)) hgo
      · skip
        rw [if_neg (by omega)] at hlc
        refine x_iload dX4_isAhead_67 rfl ?_
        refine x_if_ge (t := 76) dX4_isAhead_69 (by decide) (by omega) (fun c_69 => ?_) (fun c_69 => ?_)
        · skip
          refine x_iconst dX4_isAhead_76 ?_
          refine x_zret rfl dX4_isAhead_77 (by first | exact Or.inl rfl | exact Or.inr rfl | exact bi_01 _ | omega) (Nat.le_refl _) (Nat.le_refl _) ?_
          exact ⟨by first | exact rT (by omega) | exact rF (by omega), rfl, rfl⟩
        · skip
          refine x_iconst dX4_isAhead_72 ?_
          refine x_goto (t := 77) dX4_isAhead_73 (by decide) ?_
          refine x_zret rfl dX4_isAhead_77 (by first | exact Or.inl rfl | exact Or.inr rfl | exact bi_01 _ | omega) (Nat.le_refl _) (Nat.le_refl _) ?_
          exact ⟨by first | exact rT (by omega) | exact rF (by omega), rfl, rfl⟩
/-- a word of this stem -/
def mtc (P q : List Int) : Prop := q.length = P.length + 1 ∧ q.take P.length = P
noncomputable def endV (L : List (List Int × Int)) (P : List Int) : Int := itr (fun w s => rr_or s (@ite _ (mtc P (wdL L w)) (Classical.propDecidable _) (rr_shl 1 ((wdL L w).getD P.length 0)) 0)) 0 L.length 0
theorem mtc_iff {P q : List Int} (h : q.length = P.length + 1) : mtc P q ↔ ∀ k, k < P.length → q.getD k 0 = P.getD k 0 := by
  have h1 := pat_iff (row := q) (w := P) (i := 0)
  constructor
  · rintro ⟨-, z⟩ k hk
    have := ((h1 (by omega)).mp (by unfold pat; simpa using z)).2 k hk
    simpa using this
  · intro z
    refine ⟨h, ?_⟩
    by_cases e : 0 < P.length
    · have := (h1 e).mpr ⟨by omega, fun k hk => by simpa using z k hk⟩
      unfold pat at this
      simpa using this
    · have : P = [] := List.length_eq_zero_iff.mp (by omega)
      rw [this]; simp
theorem c_endingsOf {I : Nat → Int → Int} {L : List (List Int × Int)} {P : List Int} (hW : WE I L) (hL : L.length ≤ 240) (hP : P.length ≤ 6 ∧ ∀ k : Nat, k < P.length → I 375 k = P.getD k 0 ∧ 0 ≤ P.getD k 0 ∧ P.getD k 0 < 20) : mC yX4_endingsOf cX4_endingsOf 6 (some FieldType.int) 0 [vR (some 360), vI (P.length : Int)] I (some (vI (endV L P))) I := by
  have h25 := hW.1
  have hP6 := hP.1
  refine mC.of (by decide) rfl (Nat.le_of_ble_eq_true rfl) (fun G nx => ?_)
  refine x_ls (ls2 := [some (vR (some 360)), some (vI (P.length : Int)), none, none, none, none]) rfl ?_
  unfold endV
  refine x_iconst dX4_endingsOf_0 ?_
  refine x_istore_n dX4_endingsOf_1 (by decide) ?_
  refine x_iconst dX4_endingsOf_2 ?_
  refine x_istore_n dX4_endingsOf_3 (by decide) ?_
  refine rr_for (g := fun w s => rr_or s (@ite _ (mtc P (wdL L w)) (Classical.propDecidable _) (rr_shl 1 ((wdL L w).getD P.length 0)) 0)) (hi := L.length) (P := fun i _ => 0 ≤ i ∧ i ≤ L.length) (W := fun i a => mm G yX4_endingsOf cX4_endingsOf 6 (some FieldType.int) 0 nx _ _ 4 [some (vR (some 360)), some (vI (P.length : Int)), some (vI a), some (vI i), none, none] [] I) ?_ ?_ 0 0 rfl (by omega)
  · intro i hi hp
    refine x_iload_n dX4_endingsOf_4 rfl ?_
    refine x_aload_n dX4_endingsOf_5 rfl ?_
    refine m_getI (kf := 25) 25 (by decide) rfl rfl q2140 rfl dX4_endingsOf_6 ?_
    rw [h25]
    refine x_icmp_ge (t := 111) dX4_endingsOf_9 (by decide) (by omega) (fun c_9 => ?_) (fun c_9 => absurd (by omega) c_9)
    refine x_iload_n dX4_endingsOf_111 rfl ?_
    refine x_iret rfl dX4_endingsOf_112 (Nat.le_refl _) (Nat.le_refl _) ?_
    exact ⟨rfl, rfl, rfl⟩
  · intro w0 a hw0 hp ih
    obtain ⟨w, rfl⟩ : ∃ w : Nat, w0 = w := ⟨w0.toNat, by omega⟩
    obtain ⟨hwg, hwd⟩ := wdL_at (L := L) (w := w) (by omega)
    obtain ⟨q1, -, q3⟩ := hW.at hwg
    have hWq := (hW.2 w _ hwg).2
    have hq1 := hWq.1
    rw [hwd] at ih
    have hat := fun k => hWq.at (k := k)
    generalize L[w].1 = q at *
    have hend : ∀ e : Int, (e = 0 ∨ e = 1) → (e = 1 ↔ mtc P q) → ∀ j, mm G yX4_endingsOf cX4_endingsOf 6 (some FieldType.int) 0 nx _ _ 80 [some (vR (some 360)), some (vI (P.length : Int)), some (vI a), some (vI (w : Int)), some (vI e), j] [] I := fun e he hiff j => by
      refine x_iload_n dX4_endingsOf_80 rfl ?_
      refine x_iload dX4_endingsOf_81 rfl ?_
      refine x_if_eq (t := 102) dX4_endingsOf_83 (by decide) (by omega) (fun c_83 => ?_) (fun c_83 => ?_)
      · skip
        have hno : ¬ mtc P q := fun z => by have := hiff.mpr z; omega
        rw [if_neg hno] at ih
        refine x_iconst dX4_endingsOf_102 ?_
        refine x_ior dX4_endingsOf_103 ?_
        refine x_istore_n dX4_endingsOf_104 (by decide) ?_
        refine x_iinc dX4_endingsOf_105 rfl (by decide) ?_
        refine x_goto (t := 4) dX4_endingsOf_108 (by decide) ?_
        exact x_loc (by repeat first | exact trivial | refine ⟨Or.inr rfl, ?_⟩ | refine ⟨Or.inl rfl, ?_⟩) (ih (by omega))
      · skip
        have hyes : mtc P q := hiff.mp (by omega)
        rw [if_pos hyes] at ih
        have hql := hyes.1
        refine x_iconst dX4_endingsOf_86 ?_
        refine x_aload_n dX4_endingsOf_87 rfl ?_
        refine m_getA (kf := 28) 28 (a := 377) (by decide) rfl rfl q2143 rfl rfl dX4_endingsOf_88 ?_
        refine x_bipush dX4_endingsOf_91 (by decide) ?_
        refine x_iload_n dX4_endingsOf_93 rfl ?_
        refine x_imul dX4_endingsOf_94 ?_
        refine x_iload_n dX4_endingsOf_95 rfl ?_
        refine x_iadd dX4_endingsOf_96 ?_
        refine m_iald (n := 1687) rfl rfl (by decide) (by omega) dX4_endingsOf_97 ?_
        rw [q3 P.length (by omega)]
        refine x_ishl dX4_endingsOf_98 ?_
        refine x_goto (t := 103) dX4_endingsOf_99 (by decide) ?_
        refine x_ior dX4_endingsOf_103 ?_
        refine x_istore_n dX4_endingsOf_104 (by decide) ?_
        refine x_iinc dX4_endingsOf_105 rfl (by decide) ?_
        refine x_goto (t := 4) dX4_endingsOf_108 (by decide) ?_
        exact x_loc (by repeat first | exact trivial | refine ⟨Or.inr rfl, ?_⟩ | refine ⟨Or.inl rfl, ?_⟩) (ih (by omega))
    refine x_iload_n dX4_endingsOf_4 rfl ?_
    refine x_aload_n dX4_endingsOf_5 rfl ?_
    refine m_getI (kf := 25) 25 (by decide) rfl rfl q2140 rfl dX4_endingsOf_6 ?_
    rw [h25]
    refine x_icmp_ge (t := 111) dX4_endingsOf_9 (by decide) (by omega) (fun c_9 => absurd c_9 (by omega)) (fun c_9 => ?_)
    refine x_aload_n dX4_endingsOf_12 rfl ?_
    refine m_getA (kf := 27) 27 (a := 376) (by decide) rfl rfl q2142 rfl rfl dX4_endingsOf_13 ?_
    refine x_iload_n dX4_endingsOf_16 rfl ?_
    refine m_iald (n := 241) rfl rfl (by decide) (by omega) dX4_endingsOf_17 ?_
    rw [q1]
    refine x_iload_n dX4_endingsOf_18 rfl ?_
    refine x_iconst dX4_endingsOf_19 ?_
    refine x_iadd dX4_endingsOf_20 ?_
    refine x_icmp_ne (t := 28) dX4_endingsOf_21 (by decide) (by omega) (fun c_21 => ?_) (fun c_21 => ?_)
    · skip
      refine x_iconst dX4_endingsOf_28 ?_
      refine x_istore dX4_endingsOf_29 (by decide) ?_
      refine x_iconst dX4_endingsOf_31 ?_
      refine x_istore dX4_endingsOf_32 (by decide) ?_
      refine x_iload dX4_endingsOf_34 rfl ?_
      have hnm : ¬ mtc P q := fun z => by have := z.1; omega
      refine x_iload_n dX4_endingsOf_36 rfl ?_
      refine x_icmp_ge (t := 80) dX4_endingsOf_37 (by decide) (by omega) (fun _ => ?_) (fun _ => ?_)
      · exact x_loc (by repeat first | exact trivial | refine ⟨Or.inr rfl, ?_⟩ | refine ⟨Or.inl rfl, ?_⟩) (hend 0 (Or.inl rfl) ⟨fun z => by omega, fun z => absurd z hnm⟩ none)
      · refine x_iload dX4_endingsOf_40 rfl ?_
        refine x_if_eq (t := 80) dX4_endingsOf_42 (by decide) (by omega) (fun _ => ?_) (fun z => absurd rfl z)
        exact x_loc (by repeat first | exact trivial | refine ⟨Or.inr rfl, ?_⟩ | refine ⟨Or.inl rfl, ?_⟩) (hend 0 (Or.inl rfl) ⟨fun z => by omega, fun z => absurd z hnm⟩ none)
    · skip
      refine x_iconst dX4_endingsOf_24 ?_
      refine x_goto (t := 29) dX4_endingsOf_25 (by decide) ?_
      refine x_istore dX4_endingsOf_29 (by decide) ?_
      refine x_iconst dX4_endingsOf_31 ?_
      refine x_istore dX4_endingsOf_32 (by decide) ?_
      have hql : q.length = P.length + 1 := by omega
      have hiff := mtc_iff hql
      refine x_loc (ls2 := [some (vR (some 360)), some (vI (P.length : Int)), some (vI a), some (vI (w : Int)), some (vI (((0 : Nat), (1 : Int)) : Nat × Int).2), some (vI ((((0 : Nat), (1 : Int)) : Nat × Int).1 : Int))]) (by repeat first | exact trivial | refine ⟨Or.inr rfl, ?_⟩ | refine ⟨Or.inl rfl, ?_⟩) ?_
      refine rr_ind (W := fun s : Nat × Int => mm G yX4_endingsOf cX4_endingsOf 6 (some FieldType.int) 0 nx _ _ 34 [some (vR (some 360)), some (vI (P.length : Int)), some (vI a), some (vI (w : Int)), some (vI s.2), some (vI (s.1 : Int))] [] I) (fun s => P.length - s.1) (fun s => s.1 ≤ P.length ∧ ((s.2 = 1 ∧ ∀ k, k < s.1 → q.getD k 0 = P.getD k 0) ∨ (s.2 = 0 ∧ ¬ mtc P q))) ?_ ((0 : Nat), (1 : Int)) ⟨by simp, Or.inl ⟨rfl, fun k hk => by simp at hk⟩⟩
      rintro ⟨k, e⟩ ⟨hk, hc⟩ ih2
      simp only at hk hc ih2
      dsimp only
      have he01 : e = 0 ∨ e = 1 := hc.elim (fun z => Or.inr z.1) (fun z => Or.inl z.1)
      refine x_iload dX4_endingsOf_34 rfl ?_
      refine x_iload_n dX4_endingsOf_36 rfl ?_
      refine x_icmp_ge (t := 80) dX4_endingsOf_37 (by decide) (by omega) (fun c_37 => ?_) (fun c_37 => ?_)
      · skip
        refine x_loc (by repeat first | exact trivial | refine ⟨Or.inr rfl, ?_⟩ | refine ⟨Or.inl rfl, ?_⟩) (hend e he01 ⟨fun z => hiff.mpr (fun k' hk' => ?_), fun z => ?_⟩ none)
        · exact (hc.resolve_right (fun y => by omega)).2 k' (by omega)
        · rcases hc with y | y
          · exact y.1
          · exact absurd z y.2
      · skip
        refine x_iload dX4_endingsOf_40 rfl ?_
        refine x_if_eq (t := 80) dX4_endingsOf_42 (by decide) (by omega) (fun c_42 => ?_) (fun c_42 => ?_)
        · skip
          exact x_loc (by repeat first | exact trivial | refine ⟨Or.inr rfl, ?_⟩ | refine ⟨Or.inl rfl, ?_⟩) (hend e he01 ⟨fun z => by omega, fun z => absurd z (hc.resolve_left (fun y => by omega)).2⟩ none)
        · skip
          have hpre := (hc.resolve_right (fun y => c_42 y.1)).2
          have hPk := hP.2 k (by omega)
          have hqk := hat k (by omega)
          refine x_aload_n dX4_endingsOf_45 rfl ?_
          refine m_getA (kf := 28) 28 (a := 377) (by decide) rfl rfl q2143 rfl rfl dX4_endingsOf_46 ?_
          refine x_bipush dX4_endingsOf_49 (by decide) ?_
          refine x_iload_n dX4_endingsOf_51 rfl ?_
          refine x_imul dX4_endingsOf_52 ?_
          refine x_iload dX4_endingsOf_53 rfl ?_
          refine x_iadd dX4_endingsOf_55 ?_
          refine m_iald (n := 1687) rfl rfl (by decide) (by omega) dX4_endingsOf_56 ?_
          rw [q3 k (by omega)]
          refine x_aload_n dX4_endingsOf_57 rfl ?_
          refine m_getA (kf := 24) 24 (a := 375) (by decide) rfl rfl q2139 rfl rfl dX4_endingsOf_58 ?_
          refine x_iload dX4_endingsOf_61 rfl ?_
          refine m_iald (n := 7) rfl rfl (by decide) (by omega) dX4_endingsOf_63 ?_
          rw [hPk.1]
          refine x_icmp_ne (t := 71) dX4_endingsOf_64 (by decide) (by omega) (fun c_64 => ?_) (fun c_64 => ?_)
          · skip
            refine x_iconst dX4_endingsOf_71 ?_
            have hgo := ih2 (k + 1, 0) ⟨by simp only; omega, Or.inr ⟨rfl, fun z => c_64 (hiff.mp z k (by omega))⟩⟩ (by simp only; omega)
            refine x_istore dX4_endingsOf_72 (by decide) ?_
            refine x_iinc dX4_endingsOf_74 rfl (by decide) ?_
            refine x_goto (t := 34) dX4_endingsOf_77 (by decide) ?_
            exact x_loc (by rw [show (((k + 1, 0) : Nat × Int).1 : Int) = (k : Int) + 1 by simp only; omega]; exact (by repeat first | exact trivial | refine ⟨Or.inr rfl, ?_⟩ | refine ⟨Or.inl rfl, ?_⟩)) hgo
          · skip
            refine x_iconst dX4_endingsOf_67 ?_
            refine x_goto (t := 72) dX4_endingsOf_68 (by decide) ?_
            have hgo := ih2 (k + 1, 1) ⟨by simp only; omega, Or.inl ⟨rfl, fun j hj => by
              by_cases ej : j = k
              · rw [ej]; exact c_64
              · exact hpre j (by simp only at hj; omega)⟩⟩ (by simp only; omega)
            refine x_istore dX4_endingsOf_72 (by decide) ?_
            refine x_iinc dX4_endingsOf_74 rfl (by decide) ?_
            refine x_goto (t := 34) dX4_endingsOf_77 (by decide) ?_
            exact x_loc (by rw [show (((k + 1, 1) : Nat × Int).1 : Int) = (k : Int) + 1 by simp only; omega]; exact (by repeat first | exact trivial | refine ⟨Or.inr rfl, ?_⟩ | refine ⟨Or.inl rfl, ?_⟩)) hgo
