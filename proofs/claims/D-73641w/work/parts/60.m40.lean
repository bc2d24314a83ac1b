set_option maxRecDepth 100000
/-! THE MODEL's methods, 40: stems, the walk -/
/-- the shifted stems -/
def StH (J : Nat → Int → Int) (S : List Nat) (a : Nat) : Prop := J 360 32 = S.length ∧ (∀ i : Nat, i < a → J 381 i = (S.getD i 0 : Nat)) ∧ ∀ i : Nat, a ≤ i → i < S.length → J 381 ((i : Int) + 1) = (S.getD i 0 : Nat)
theorem StH.fin {J : Nat → Int → Int} {S : List Nat} {a w : Nat} (h : StH J S a) (ha : a ≤ S.length) : StE (rr_u2 (rr_u2 J 381 a w) 360 32 (J 360 32 + 1)) (S.take a ++ w :: S.drop a) := by
  refine ⟨by rw [rr_u2_same, h.1]; simp; omega, fun i hi => ?_⟩
  simp at hi
  rw [rr_u2_ne _ _ (by omega)]
  have hta : (S.take a).length = a := by rw [List.length_take]; omega
  rcases Nat.lt_trichotomy i a with z | z | z
  · rw [rr_u2_ne _ _ (by omega), h.2.1 i z]
    congr 1
    rw [List.getD_eq_getElem?_getD, List.getD_eq_getElem?_getD, List.getElem?_append_left (by omega), List.getElem?_take, if_pos z]
  · subst z
    rw [rr_u2_same]
    congr 1
    rw [List.getD_eq_getElem?_getD, List.getElem?_append_right (by omega), hta]
    simp
  · rw [rr_u2_ne _ _ (by omega)]
    obtain ⟨j, rfl⟩ : ∃ j, i = j + 1 := ⟨i - 1, by omega⟩
    have h1 := h.2.2 j (by omega) (by omega)
    rw [show ((j + 1 : Nat) : Int) = (j : Int) + 1 by omega, h1]
    congr 1
    rw [List.getD_eq_getElem?_getD, List.getD_eq_getElem?_getD, List.getElem?_append_right (by omega), hta, show j + 1 - a = (j - a) + 1 by omega, List.getElem?_cons_succ, List.getElem?_drop, show a + (j - a) = j by omega]
theorem c_laysStems {I : Nat → Int → Int} {L : List (List Int × Int)} (hW : WE I L) (hL : L.length ≤ 240) : mE yX4_laysStems cX4_laysStems 5 none 1 [vR (some 360)] I (SmPost I L) := by
  refine mE.of (by decide) rfl (Nat.le_of_ble_eq_true rfl) (fun G nx => ?_)
  refine x_ls (ls2 := [some (vR (some 360)), none, none, none, none]) rfl ?_
  generalize hF : SmPost I L = F
  have hok : ∀ w : Nat, w < L.length → WOK (wdL L w) := fun w hw => by
    obtain ⟨a, b⟩ := wdL_at hw
    rw [b]
    exact (hW.2 w _ a).2
  refine x_aload_n dX4_laysStems_0 rfl ?_
  refine x_iconst dX4_laysStems_1 ?_
  refine m_putI (kf := 32) 32 (by decide) rfl rfl q2147 rfl rfl (rr_nar_i _) dX4_laysStems_2 ?_
  refine x_iconst dX4_laysStems_5 ?_
  refine x_istore_n dX4_laysStems_6 (by decide) ?_
  refine x_loc (ls2 := [some (vR (some 360)), some (vI (((0 : Nat), rr_u2 I 360 32 0).1 : Int)), none, none, none]) (by repeat first | exact trivial | refine ⟨Or.inr rfl, ?_⟩ | refine ⟨Or.inl rfl, ?_⟩) ?_
  refine rr_ind (W := fun q : Nat × (Nat → Int → Int) => me G yX4_laysStems cX4_laysStems 5 none 1 nx _ 7 [some (vR (some 360)), some (vI (q.1 : Int)), none, none, none] [] q.2) (fun q => L.length - q.1) (fun q => q.1 ≤ L.length ∧ eqx I q.2 [375, 381] [32] ∧ StE q.2 (stL L q.1)) ?_ ((0 : Nat), rr_u2 I 360 32 0) ⟨by simp, (eqx_u2 I 32 0).mono (by decide) (by decide), by simp only [stL]; exact rr_u2_same _ _ _ _, fun i hi => by simp [stL] at hi⟩
  rintro ⟨w, J⟩ ⟨hw, hJ, hS⟩ ih
  simp only at hw hJ hS ih
  dsimp only
  have h25 : J 360 25 = L.length := by rw [hJ.2 25 (by decide)]; exact hW.1
  have hSi := stL_in L w
  refine x_iload_n dX4_laysStems_7 rfl ?_
  refine x_aload_n dX4_laysStems_8 rfl ?_
  refine m_getI (kf := 25) 25 (by decide) rfl rfl q2140 rfl dX4_laysStems_9 ?_
  rw [h25]
  refine x_icmp_ge (t := 148) dX4_laysStems_12 (by decide) (by omega) (fun c_12 => ?_) (fun c_12 => ?_)
  · skip
    refine x_vret rfl dX4_laysStems_148 (Nat.le_refl _) (Nat.le_refl _) ?_
    refine ⟨rfl, rfl, _, rfl, ?_⟩
    rw [← hF]
    rw [show w = L.length by omega] at hS
    exact ⟨hJ, hS⟩
  · skip
    have hwl : w < L.length := by omega
    obtain ⟨hwg, hwd⟩ := wdL_at hwl
    have hWJ := WE_eqx hW hJ (by decide) (by decide) (by decide) (by decide)
    obtain ⟨q1, -, q3⟩ := hWJ.at hwg
    rw [← hwd] at q1 q3
    have hpo := hok w hwl
    have hp1 := hpo.1
    have hst : stL L (w + 1) = @ite _ (gdW L (wdL L w)) (Classical.propDecidable _) (insS L (stL L w) w) (stL L w) := rfl
    have hsl := stm_len (wdL L w)
    refine x_aload_n dX4_laysStems_15 rfl ?_
    refine m_getA (kf := 27) 27 (a := 376) (by decide) rfl rfl q2142 rfl rfl dX4_laysStems_16 ?_
    refine x_iload_n dX4_laysStems_19 rfl ?_
    refine m_iald (n := 241) rfl rfl (by decide) (by omega) dX4_laysStems_20 ?_
    rw [q1]
    refine x_iconst dX4_laysStems_21 ?_
    refine x_isub dX4_laysStems_22 ?_
    refine x_istore_n dX4_laysStems_23 (by decide) ?_
    refine x_aload_n dX4_laysStems_24 rfl ?_
    refine x_iload_n dX4_laysStems_25 rfl ?_
    refine x_iload_n dX4_laysStems_26 rfl ?_
    refine m_cw2 (c_laysPiece (by omega) (by omega)) fX4_laysPiece q2605 (by decide) (Nat.le_of_ble_eq_true rfl) dX4_laysStems_27 ?_
    generalize hJ1 : fl J 375 0 _ _ = J1
    have e1 : eqx J J1 [375] [] := by
      rw [← hJ1]
      exact ⟨fun x a b => by funext j; simp at b; rw [fl_o _ _ _ _ _ (by omega)], fun j hj => by rw [fl_o _ _ _ _ _ (by omega)]⟩
    have eI1 : eqx I J1 [375, 381] [32] := hJ.tr (e1.mono (by decide) (by decide))
    have hS1 : StE J1 (stL L w) := by unfold StE; rw [e1.2 32 (by decide), e1.1 381 (by decide) (by decide)]; exact hS
    have hW1 := WE_eqx hW eI1 (by decide) (by decide) (by decide) (by decide)
    have hP1 : (stm (wdL L w)).length ≤ 6 ∧ ∀ k : Nat, k < (stm (wdL L w)).length → J1 375 k = (stm (wdL L w)).getD k 0 ∧ 0 ≤ (stm (wdL L w)).getD k 0 ∧ (stm (wdL L w)).getD k 0 < 20 := ⟨by omega, fun k hk => by
      rw [stm_get (by omega)]
      refine ⟨?_, hpo.at (by omega)⟩
      rw [← hJ1]
      simp only [fl]
      rw [if_pos ⟨trivial, by omega, by omega⟩]
      exact q3 k (by omega)⟩
    have hskip : ¬ gdW L (wdL L w) → ∀ x y, me G yX4_laysStems cX4_laysStems 5 none 1 nx _ 142 [some (vR (some 360)), some (vI (w : Int)), some (vI x), some (vI y), none] [] J1 := fun hno x y => by
      rw [if_neg hno] at hst
      have hgo := ih (w + 1, J1) ⟨by simp only; omega, eI1, by simp only; rw [hst]; exact hS1⟩ (by simp only; omega)
      refine x_iinc dX4_laysStems_142 rfl (by decide) ?_
      refine x_goto (t := 7) dX4_laysStems_145 (by decide) ?_
      exact x_loc (by rw [show (((w + 1, J1) : Nat × (Nat → Int → Int)).1 : Int) = (w : Int) + 1 by simp only; omega]; exact (by repeat first | exact trivial | refine ⟨Or.inr rfl, ?_⟩ | refine ⟨Or.inl rfl, ?_⟩)) hgo
    have e377 : J1 377 (7 * (w : Int) + ((wdL L w).length - 1)) = lst (wdL L w) := by
      rw [e1.1 377 (by decide) (by decide)]
      have := q3 ((wdL L w).length - 1) (by omega)
      rw [show (((wdL L w).length - 1 : Nat) : Int) = ((wdL L w).length : Int) - 1 by omega] at this
      exact this
    refine x_iload_n dX4_laysStems_30 rfl ?_
    refine x_iconst dX4_laysStems_31 ?_
    refine x_icmp_ge (t := 39) dX4_laysStems_32 (by decide) (by omega) (fun c_32 => ?_) (fun c_32 => ?_)
    · skip
      refine x_aload_n dX4_laysStems_39 rfl ?_
      refine x_iload_n dX4_laysStems_40 rfl ?_
      refine x_top ((stm (wdL L w)).length : Int) (by omega) ?_
      refine m_cv1 (c_endingsOf hW1 hL hP1) fX4_endingsOf q2609 (by decide) (Nat.le_of_ble_eq_true rfl) dX4_laysStems_41 ?_
      refine x_istore_n dX4_laysStems_44 (by decide) ?_
      refine x_iload_n dX4_laysStems_45 rfl ?_
      have hbc := bcx_in (endV L (stm (wdL L w)))
      obtain ⟨t, t1, t2, t3, t4⟩ := ntz_gd hok hwl (p := wdL L w) rfl (by omega)
      refine m_cs1 (xc_bitCount.m) fJ4_bitCount q2442 (by decide) (Nat.le_of_ble_eq_true rfl) dX4_laysStems_46 ?_
      refine x_iconst dX4_laysStems_49 ?_
      refine x_icmp_lt (t := 142) dX4_laysStems_50 (by decide) (by omega) (fun c_50 => ?_) (fun c_50 => ?_)
      · skip
        have hno : ¬ gdW L (wdL L w) := fun z => by have := z.2.1; omega
        exact x_loc (by repeat first | exact trivial | refine ⟨Or.inr rfl, ?_⟩ | refine ⟨Or.inl rfl, ?_⟩) (hskip hno _ _)
      · skip
        refine x_iload_n dX4_laysStems_53 rfl ?_
        refine m_cs1 ((xc_ntz t1 t2 t3).m) fJ4_numberOfTrailingZeros q2613 (by decide) (Nat.le_of_ble_eq_true rfl) dX4_laysStems_54 ?_
        refine x_aload_n dX4_laysStems_57 rfl ?_
        refine m_getA (kf := 28) 28 (a := 377) (by decide) rfl rfl q2143 rfl rfl dX4_laysStems_58 ?_
        refine x_bipush dX4_laysStems_61 (by decide) ?_
        refine x_iload_n dX4_laysStems_63 rfl ?_
        refine x_imul dX4_laysStems_64 ?_
        refine x_iload_n dX4_laysStems_65 rfl ?_
        refine x_iadd dX4_laysStems_66 ?_
        refine m_iald (n := 1687) rfl rfl (by decide) (by omega) dX4_laysStems_67 ?_
        rw [e377]
        have hl20 : 0 ≤ lst (wdL L w) ∧ lst (wdL L w) < 20 := hpo.at (k := (wdL L w).length - 1) (by omega)
        refine x_icmp_eq (t := 74) dX4_laysStems_68 (by decide) (by omega) (fun c_68 => ?_) (fun c_68 => ?_)
        · skip
          have hyes : gdW L (wdL L w) := ⟨by omega, by omega, t4.mpr c_68⟩
          rw [if_pos hyes] at hst
          refine x_aload_n dX4_laysStems_74 rfl ?_
          refine m_getI (kf := 32) 32 (by decide) rfl rfl q2147 rfl dX4_laysStems_75 ?_
          rw [hS1.1]
          refine x_istore dX4_laysStems_78 (by decide) ?_
          generalize hSS : stL L w = S at *
          have hH : StH J1 S S.length := ⟨hS1.1, hS1.2, fun i a b => by omega⟩
          refine x_loc (ls2 := [some (vR (some 360)), some (vI (w : Int)), none, none, some (vI ((S.length, J1).1 : Int))]) (by repeat first | exact trivial | refine ⟨Or.inr rfl, ?_⟩ | refine ⟨Or.inl rfl, ?_⟩) ?_
          refine rr_ind (W := fun q : Nat × (Nat → Int → Int) => me G yX4_laysStems cX4_laysStems 5 none 1 nx _ 80 [some (vR (some 360)), some (vI (w : Int)), none, none, some (vI (q.1 : Int))] [] q.2) (fun q => q.1) (fun q => q.1 ≤ S.length ∧ eqx I q.2 [375, 381] [32] ∧ StH q.2 S q.1 ∧ posS L S (wdL L w) S.length = posS L S (wdL L w) q.1) ?_ (S.length, J1) ⟨by simp, eI1, hH, rfl⟩
          clear hH hskip e377 hP1 hW1 hS1 eI1
          rintro ⟨a, J⟩ ⟨ha, hJ, hH, hpos⟩ ih2
          simp only at ha hJ hH hpos ih2
          dsimp only
          have hWJ2 := WE_eqx hW hJ (by decide) (by decide) (by decide) (by decide)
          have hend : posS L S (wdL L w) S.length = a → me G yX4_laysStems cX4_laysStems 5 none 1 nx _ 124 [some (vR (some 360)), some (vI (w : Int)), none, none, some (vI (a : Int))] [] J := fun he => by
            have hfin := hH.fin (w := w) ha
            have heF : eqx I (rr_u2 (rr_u2 J 381 a w) 360 32 (J 360 32 + 1)) [375, 381] [32] := hJ.tr ((show eqx J (rr_u2 J 381 a w) [375, 381] [32] from ⟨fun x p q => by funext j; simp at q; rw [rr_u2_ne _ _ (by omega)], fun j hj => by rw [rr_u2_ne _ _ (by omega)]⟩).tr ((eqx_u2 _ 32 _).mono (by decide) (by decide)))
            have hgo := ih (w + 1, rr_u2 (rr_u2 J 381 a w) 360 32 (J 360 32 + 1)) ⟨by simp only; omega, heF, by simp only; rw [hst]; unfold insS; rw [he]; exact hfin⟩ (by simp only; omega)
            refine x_aload_n dX4_laysStems_124 rfl ?_
            refine m_getA (kf := 33) 33 (a := 381) (by decide) rfl rfl q2148 rfl rfl dX4_laysStems_125 ?_
            refine x_iload dX4_laysStems_128 rfl ?_
            refine x_iload_n dX4_laysStems_130 rfl ?_
            refine m_iast (n := 240) rfl rfl (by decide) (by omega) dX4_laysStems_131 ?_
            refine x_aload_n dX4_laysStems_132 rfl ?_
            refine x_dup dX4_laysStems_133 rfl ?_
            refine m_getI (kf := 32) 32 (by decide) rfl rfl q2147 rfl dX4_laysStems_134 ?_
            rw [rr_u2_ne _ _ (by omega)]
            refine x_iconst dX4_laysStems_137 ?_
            refine x_iadd dX4_laysStems_138 ?_
            refine m_putI (kf := 32) 32 (by decide) rfl rfl q2147 rfl rfl (rr_nar_i _) dX4_laysStems_139 ?_
            refine x_iinc dX4_laysStems_142 rfl (by decide) ?_
            refine x_goto (t := 7) dX4_laysStems_145 (by decide) ?_
            exact x_loc (by rw [show (((w + 1, rr_u2 (rr_u2 J 381 a w) 360 32 (J 360 32 + 1)) : Nat × (Nat → Int → Int)).1 : Int) = (w : Int) + 1 by simp only; omega]; exact (by repeat first | exact trivial | refine ⟨Or.inr rfl, ?_⟩ | refine ⟨Or.inl rfl, ?_⟩)) hgo
          refine x_iload dX4_laysStems_80 rfl ?_
          refine x_if_le (t := 124) dX4_laysStems_82 (by decide) (by omega) (fun c_82 => ?_) (fun c_82 => ?_)
          · skip
            exact x_loc (by repeat first | exact trivial | refine ⟨Or.inr rfl, ?_⟩ | refine ⟨Or.inl rfl, ?_⟩) (hend (by rw [hpos, show a = 0 by omega]; rfl))
          · skip
            obtain ⟨b, rfl⟩ : ∃ b, a = b + 1 := ⟨a - 1, by omega⟩
            have hsb := hH.2.1 b (by omega)
            have hvL : S.getD b 0 < L.length := by
              have : S.getD b 0 ∈ S := by
                rw [List.getD_eq_getElem?_getD, List.getElem?_eq_getElem (by omega)]
                exact List.getElem_mem _
              have := hSi.2 _ this
              omega
            obtain ⟨hvg, hvd⟩ := wdL_at hvL
            have hAh := c_isAhead hWJ2 hL hwg hvg
            rw [← hwd, ← hvd] at hAh
            have hps : posS L S (wdL L w) (b + 1) = if lcmp (stm (wdL L w)) (stm (wdL L (S.getD b 0 : Nat))) < 0 then posS L S (wdL L w) b else b + 1 := rfl
            refine x_aload_n dX4_laysStems_85 rfl ?_
            refine x_iload_n dX4_laysStems_86 rfl ?_
            refine x_aload_n dX4_laysStems_87 rfl ?_
            refine m_getA (kf := 33) 33 (a := 381) (by decide) rfl rfl q2148 rfl rfl dX4_laysStems_88 ?_
            refine x_iload dX4_laysStems_91 rfl ?_
            refine x_iconst dX4_laysStems_93 ?_
            refine x_isub dX4_laysStems_94 ?_
            refine m_iald (n := 240) rfl rfl (by decide) (by omega) dX4_laysStems_95 ?_
            rw [show ((b + 1 : Nat) : Int) - 1 = (b : Int) by omega, hsb]
            refine m_cv2 (hAh) fX4_isAhead q2614 (by decide) (Nat.le_of_ble_eq_true rfl) dX4_laysStems_96 ?_
            refine x_if_eq_b (t := 124) dX4_laysStems_99 (by decide) (fun c_99 => ?_) (fun c_99 => ?_)
            · skip
              rw [if_neg c_99] at hps
              exact x_loc (by repeat first | exact trivial | refine ⟨Or.inr rfl, ?_⟩ | refine ⟨Or.inl rfl, ?_⟩) (hend (by rw [hpos, hps]))
            · skip
              rw [if_pos c_99] at hps
              refine x_aload_n dX4_laysStems_102 rfl ?_
              refine m_getA (kf := 33) 33 (a := 381) (by decide) rfl rfl q2148 rfl rfl dX4_laysStems_103 ?_
              refine x_iload dX4_laysStems_106 rfl ?_
              refine x_aload_n dX4_laysStems_108 rfl ?_
              refine m_getA (kf := 33) 33 (a := 381) (by decide) rfl rfl q2148 rfl rfl dX4_laysStems_109 ?_
              refine x_iload dX4_laysStems_112 rfl ?_
              refine x_iconst dX4_laysStems_114 ?_
              refine x_isub dX4_laysStems_115 ?_
              refine m_iald (n := 240) rfl rfl (by decide) (by omega) dX4_laysStems_116 ?_
              rw [show ((b + 1 : Nat) : Int) - 1 = (b : Int) by omega, hsb]
              refine m_iast (n := 240) rfl rfl (by decide) (by omega) dX4_laysStems_117 ?_
              refine x_iinc dX4_laysStems_118 rfl (by decide) ?_
              refine x_goto (t := 80) dX4_laysStems_121 (by decide) ?_
              generalize hK : rr_u2 J 381 ((b + 1 : Nat) : Int) (S.getD b 0 : Nat) = K
              have hgo := ih2 (b, K) ⟨by simp only; omega, by simp only; rw [← hK]; exact hJ.tr ⟨fun x p q => by funext j; simp at q; rw [rr_u2_ne _ _ (by omega)], fun j hj => by rw [rr_u2_ne _ _ (by omega)]⟩, ⟨by simp only; rw [← hK, rr_u2_ne _ _ (by omega)]; exact hH.1, fun i hi => by simp only at hi ⊢; rw [← hK, rr_u2_ne _ _ (by omega)]; exact hH.2.1 i (by omega), fun i h1 h2 => by
                simp only at h1 ⊢
                rw [← hK]
                by_cases e : i = b
                · rw [e, show (b : Int) + 1 = ((b + 1 : Nat) : Int) by omega, rr_u2_same]
                · rw [rr_u2_ne _ _ (by omega)]; exact hH.2.2 i (by omega) h2⟩, by simp only; rw [hpos, hps]⟩ (by simp only; omega)
              exact x_loc (by rw [show ((b + 1 : Nat) : Int) + -1 = (b : Int) by omega]; exact (by repeat first | exact trivial | refine ⟨Or.inr rfl, ?_⟩ | refine ⟨Or.inl rfl, ?_⟩)) hgo
        · skip
          have hno : ¬ gdW L (wdL L w) := fun z => c_68 (t4.mp z.2.2)
          refine x_goto (t := 142) dX4_laysStems_71 (by decide) ?_
          exact x_loc (by repeat first | exact trivial | refine ⟨Or.inr rfl, ?_⟩ | refine ⟨Or.inl rfl, ?_⟩) (hskip hno _ _)
    · skip
      refine x_iconst dX4_laysStems_35 ?_
      refine x_goto (t := 44) dX4_laysStems_36 (by decide) ?_
      have hno : ¬ gdW L (wdL L w) := fun z => by have := z.1; omega
      refine x_istore_n dX4_laysStems_44 (by decide) ?_
      refine x_iload_n dX4_laysStems_45 rfl ?_
      refine m_cs1 (xc_bitCount.m) fJ4_bitCount q2442 (by decide) (Nat.le_of_ble_eq_true rfl) dX4_laysStems_46 ?_
      refine x_top 0 (by decide) ?_
      refine x_iconst dX4_laysStems_49 ?_
      refine x_icmp_lt (t := 142) dX4_laysStems_50 (by decide) (by decide) (fun _ => ?_) (fun z => absurd (by decide) z)
      exact x_loc (by repeat first | exact trivial | refine ⟨Or.inr rfl, ?_⟩ | refine ⟨Or.inl rfl, ?_⟩) (hskip hno _ _)
