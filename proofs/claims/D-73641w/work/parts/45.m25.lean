set_option maxRecDepth 100000
/-! THE MODEL's methods, 25: pieces told by the tape -/
def okP (I : Nat → Int → Int) : Prop := (1 ≤ I 360 1 ∧ I 360 1 ≤ 7) ∧ ∀ k : Nat, (k : Int) < I 360 1 → isLt (mSg I k) ∧ mSg I k - 97 < I 360 4
/-- the piece that the tape of I tells, by signs of J -/
def pcL (I J : Nat → Int → Int) : List Int := (List.range (I 360 1).toNat).map (fun k : Nat => J 371 (mSg I k - 97))
def KeepT (I J : Nat → Int → Int) : Prop := eqx I J QA (1 :: 2 :: 3 :: QF) ∧ LdS J ∧ J 360 1 = 0
def PtPost (I : Nat → Int → Int) (z : Int) (J : Nat → Int → Int) : Prop := KeepT I J ∧ Laid J ∧ ((okP I ∧ z = I 360 1 ∧ PE J (pcL I J)) ∨ (¬ okP I ∧ z = 0))
theorem pcL_get (I J : Nat → Int → Int) {k : Nat} (h : (k : Int) < I 360 1) : (pcL I J).getD k 0 = J 371 (mSg I k - 97) := by
  simp [pcL, show k < (I 360 1).toNat by omega]
theorem c_pieceTold {I : Nat → Int → Int} (h1 : 0 ≤ I 360 1 ∧ I 360 1 ≤ 300) (h : MI I) : mQ yX4_pieceTold cX4_pieceTold 3 (some FieldType.int) 6 [vR (some 360)] I (PtPost I) := by
  have h4 := h.1.1.2.1
  refine mQ.of (by decide) rfl (Nat.le_of_ble_eq_true rfl) (fun G nx => ?_)
  refine x_ls (ls2 := [some (vR (some 360)), none, none]) rfl ?_
  generalize hF : PtPost I = F
  refine x_aload_n dX4_pieceTold_0 rfl ?_
  refine m_ew0 (c_lays h.1 h.2) fX4_lays q2398 (by decide) (Nat.le_of_ble_eq_true rfl) dX4_pieceTold_1 (fun J hJ => ?_)
  have e1 : J 360 1 = I 360 1 := hJ.1.2 1 (by decide)
  have e4 : J 360 4 = I 360 4 := hJ.1.2 4 (by decide)
  have hT : mSg J = mSg I := mSg_eqx hJ.1 (by decide) (by decide)
  refine x_aload_n dX4_pieceTold_4 rfl ?_
  refine m_cw0 (c_starts) fX4_starts q2271 (by decide) (Nat.le_of_ble_eq_true rfl) dX4_pieceTold_5 ?_
  refine x_aload_n dX4_pieceTold_8 rfl ?_
  refine m_getI (kf := 1) 1 (by decide) rfl rfl q2116 rfl dX4_pieceTold_9 ?_
  rw [mP_o _ _ _ (by decide) (by decide), e1]
  refine x_istore_n dX4_pieceTold_12 (by decide) ?_
  refine x_iload_n dX4_pieceTold_13 rfl ?_
  refine x_iconst dX4_pieceTold_14 ?_
  refine x_bipush dX4_pieceTold_15 (by decide) ?_
  refine m_cs3 (c_in (by omega) (by omega) (by omega)) fX4_in q2299 (by decide) (Nat.le_of_ble_eq_true rfl) dX4_pieceTold_17 ?_
  refine x_istore_n dX4_pieceTold_20 (by decide) ?_
  have hb01 := bi_01 (1 ≤ I 360 1 ∧ I 360 1 ≤ 7)
  refine x_h (h2 := mh (mP (((0 : Nat), bi (1 ≤ I 360 1 ∧ I 360 1 ≤ 7), J) : Nat × Int × (Nat → Int → Int)).2.2 ((((0 : Nat), bi (1 ≤ I 360 1 ∧ I 360 1 ≤ 7), J) : Nat × Int × (Nat → Int → Int)).1 : Int) (-1))) rfl ?_
  refine x_loc (ls2 := [some (vR (some 360)), some (vI (I 360 1)), some (vI (((0 : Nat), bi (1 ≤ I 360 1 ∧ I 360 1 ≤ 7), J) : Nat × Int × (Nat → Int → Int)).2.1)]) (by repeat first | exact trivial | refine ⟨Or.inr rfl, ?_⟩ | refine ⟨Or.inl rfl, ?_⟩) ?_
  refine rr_ind (W := fun q : Nat × Int × (Nat → Int → Int) => mq G yX4_pieceTold cX4_pieceTold 3 (some FieldType.int) 6 nx _ 21 [some (vR (some 360)), some (vI (I 360 1)), some (vI q.2.1)] [] (mP q.2.2 (q.1 : Int) (-1))) (fun q => (I 360 1).toNat - q.1) (fun q => ((q.1 : Int) ≤ I 360 1) ∧ eqx J q.2.2 [375] [] ∧ ((q.2.1 = 1 ∧ (1 ≤ I 360 1 ∧ I 360 1 ≤ 7) ∧ ∀ k : Nat, k < q.1 → (isLt (mSg I k) ∧ mSg I k - 97 < I 360 4) ∧ q.2.2 375 k = J 371 (mSg I k - 97)) ∨ (q.2.1 = 0 ∧ ¬ okP I))) ?_ ((0 : Nat), bi (1 ≤ I 360 1 ∧ I 360 1 ≤ 7), J) ⟨by simp only; omega, eqx.rf _ _ _, by
    by_cases e : 1 ≤ I 360 1 ∧ I 360 1 ≤ 7
    · exact Or.inl ⟨bi_t e, e, fun k hk => by simp only at hk; omega⟩
    · exact Or.inr ⟨bi_f e, fun z => e z.1⟩⟩
  rintro ⟨p, is, K⟩ ⟨hp, hK, hc⟩ ih
  simp only at hp hK hc ih
  dsimp only
  have hTK : mSg K = mSg I := (mSg_eqx hK (by decide) (by decide)).trans hT
  have h1K : 0 ≤ K 360 1 ∧ K 360 1 ≤ 300 := by rw [hK.2 1 (by decide), e1]; exact h1
  have e4K : K 360 4 = I 360 4 := (hK.2 4 (by decide)).trans e4
  have hSg : mC yX4_sign cX4_sign 1 (some FieldType.int) 0 [vR (some 360)] (mP K p (-1)) (some (vI (mSg I p))) (mP K p (-1)) := by have := c_signP (I := K) (p := p) (f := -1) (by omega) h1K; rw [hTK] at this; exact this
  have hLt : mC yX4_isLetter cX4_isLetter 1 (some FieldType.boolean) 1 [vR (some 360)] (mP K p (-1)) (some (vI (bi (isLt (mSg I p))))) (mP K p (-1)) := by have := c_isLetter (I := K) (p := p) (f := -1) (by omega) h1K; rw [hTK] at this; exact this
  have hs := mSg_in I p
  have hend : (is = 1 → (p : Int) = I 360 1) → (is = 0 ∨ is = 1) → mq G yX4_pieceTold cX4_pieceTold 3 (some FieldType.int) 6 nx F 98 [some (vR (some 360)), some (vI (I 360 1)), some (vI is)] [] (mP K p (-1)) := fun hfin h01 => by
    have hV : eqx K (rr_u2 (mP K p (-1)) 360 1 0) [] [1, 2, 3] := (show eqx K (mP K p (-1)) [] [1, 2, 3] from ⟨fun x h1 h2 => by funext j; exact mP_a K p (-1) h1 j, fun j hj => mP_o K p (-1) (by simp at hj; omega) (by simp at hj; omega)⟩).tr ((eqx_u2 _ 1 0).mono (by decide) (by decide))
    have hV1 : rr_u2 (mP K p (-1)) 360 1 0 360 1 = 0 := rr_u2_same _ _ _ _
    have hJV : eqx J (rr_u2 (mP K p (-1)) 360 1 0) [375] [1, 2, 3] := (hK.mono (by decide) (by decide)).tr (hV.mono (by decide) (by decide))
    have hLd : Laid (rr_u2 (mP K p (-1)) 360 1 0) := Laid_eqx hJ.2.1 hJV (by decide) (by decide)
    have hKp : KeepT I (rr_u2 (mP K p (-1)) 360 1 0) := ⟨(hJ.1.mono (by decide) (by decide)).tr (hJV.mono (by decide) (by decide)), Or.inr ⟨by rw [hJV.2 45 (by decide)]; exact hJ.2.2, hLd⟩, hV1⟩
    have e371 : rr_u2 (mP K p (-1)) 360 1 0 371 = J 371 := hJV.1 371 (by decide) (by decide)
    have e375 : rr_u2 (mP K p (-1)) 360 1 0 375 = K 375 := hV.1 375 (by decide) (by decide)
    refine x_aload_n dX4_pieceTold_98 rfl ?_
    refine x_iconst dX4_pieceTold_99 ?_
    refine m_putI (kf := 1) 1 (by decide) rfl rfl q2116 rfl rfl (rr_nar_i _) dX4_pieceTold_100 ?_
    generalize rr_u2 (mP K p (-1)) 360 1 0 = V at *
    refine x_iload_n dX4_pieceTold_103 rfl ?_
    refine x_if_eq (t := 111) dX4_pieceTold_104 (by decide) (by omega) (fun c_104 => ?_) (fun c_104 => ?_)
    · skip
      refine x_iconst dX4_pieceTold_111 ?_
      refine x_iret rfl dX4_pieceTold_112 (Nat.le_refl _) (Nat.le_refl _) ?_
      rw [← hF]
      refine ⟨_, rfl, rfl, _, rfl, hKp, hLd, Or.inr ⟨?_, rfl⟩⟩
      rcases hc with z | z
      · omega
      · exact z.2
    · skip
      refine x_iload_n dX4_pieceTold_107 rfl ?_
      refine x_goto (t := 112) dX4_pieceTold_108 (by decide) ?_
      refine x_iret rfl dX4_pieceTold_112 (Nat.le_refl _) (Nat.le_refl _) ?_
      rw [← hF]
      obtain ⟨z1, z2, z3⟩ := hc.resolve_right (fun z => c_104 z.1)
      have hpn := hfin z1
      have hok : okP I := ⟨z2, fun k hk => (z3 k (by omega)).1⟩
      refine ⟨_, rfl, rfl, _, rfl, hKp, hLd, Or.inl ⟨hok, rfl, ?_, fun i hi => ?_, fun c hc2 => ?_⟩⟩
      · simp [pcL]; omega
      · have hi2 : (i : Int) < I 360 1 := by simp [pcL] at hi; omega
        rw [pcL_get I V hi2, e375, e371]
        exact (z3 i (by omega)).2
      · simp only [pcL, List.mem_map, List.mem_range] at hc2
        obtain ⟨k, k1, rfl⟩ := hc2
        have k2 := (z3 k (by omega)).1
        have := hJ.2.1.so (mSg I k - 97) (by omega) (by omega)
        rw [e371]
        omega
  have h01 : is = 0 ∨ is = 1 := hc.elim (fun z => Or.inr z.1) (fun z => Or.inl z.1)
  refine x_iload_n dX4_pieceTold_21 rfl ?_
  refine x_if_eq (t := 98) dX4_pieceTold_22 (by decide) (by omega) (fun c_22 => ?_) (fun c_22 => ?_)
  · skip
    exact hend (fun z => by omega) h01
  · skip
    refine x_aload_n dX4_pieceTold_25 rfl ?_
    refine m_getI (kf := 2) 2 (by decide) rfl rfl q2117 rfl dX4_pieceTold_26 ?_
    rw [mP_p]
    refine x_iload_n dX4_pieceTold_29 rfl ?_
    refine x_icmp_ge (t := 98) dX4_pieceTold_30 (by decide) (by omega) (fun c_30 => ?_) (fun c_30 => ?_)
    · skip
      exact hend (fun z => by omega) h01
    · skip
      refine x_aload_n dX4_pieceTold_33 rfl ?_
      refine m_cv0 (hLt) fX4_isLetter q2319 (by decide) (Nat.le_of_ble_eq_true rfl) dX4_pieceTold_34 ?_
      refine x_if_eq_b (t := 58) dX4_pieceTold_37 (by decide) (fun c_37 => ?_) (fun c_37 => ?_)
      · skip
        refine x_iconst dX4_pieceTold_58 ?_
        refine x_top (bi (isLt (mSg I p) ∧ mSg I p - 97 < I 360 4)) (by first | exact (bi_t (by omega)).symm | exact (bi_f (by omega)).symm) ?_
        have hg01 := bi_01 (isLt (mSg I p) ∧ mSg I p - 97 < I 360 4)
        refine x_istore_n dX4_pieceTold_59 (by decide) ?_
        refine x_iload_n dX4_pieceTold_60 rfl ?_
        refine x_if_eq (t := 85) dX4_pieceTold_61 (by decide) (by omega) (fun c_61 => ?_) (fun c_61 => ?_)
        · skip
          have hbad : ¬ (isLt (mSg I p) ∧ mSg I p - 97 < I 360 4) := fun z => by rw [bi_t z] at c_61; omega
          rw [bi_f hbad]
          have hnok : ¬ okP I := fun z => hbad (z.2 p (by omega))
          have hgo := ih (p + 1, 0, K) ⟨by simp only; omega, hK, Or.inr ⟨rfl, hnok⟩⟩ (by simp only; omega)
          refine x_aload_n dX4_pieceTold_85 rfl ?_
          refine x_dup dX4_pieceTold_86 rfl ?_
          refine m_getI (kf := 2) 2 (by decide) rfl rfl q2117 rfl dX4_pieceTold_87 ?_
          rw [mP_p]
          refine x_iconst dX4_pieceTold_90 ?_
          refine x_iadd dX4_pieceTold_91 ?_
          refine m_putI (kf := 2) 2 (by decide) rfl rfl q2117 rfl rfl (rr_nar_i _) dX4_pieceTold_92 ?_
          rw [mP_setp]
          refine x_goto (t := 21) dX4_pieceTold_95 (by decide) ?_
          exact x_h (by rw [show (((p + 1, 0, K) : Nat × Int × (Nat → Int → Int)).1 : Int) = (p : Int) + 1 by simp only; omega]) (x_loc (by repeat first | exact trivial | refine ⟨Or.inr rfl, ?_⟩ | refine ⟨Or.inl rfl, ?_⟩) hgo)
        · skip
          have hgood : isLt (mSg I p) ∧ mSg I p - 97 < I 360 4 := Classical.byContradiction fun z => c_61 (bi_f z)
          refine x_aload_n dX4_pieceTold_64 rfl ?_
          refine m_getA (kf := 24) 24 (a := 375) (by decide) rfl rfl q2139 rfl rfl dX4_pieceTold_65 ?_
          refine x_aload_n dX4_pieceTold_68 rfl ?_
          refine m_getI (kf := 2) 2 (by decide) rfl rfl q2117 rfl dX4_pieceTold_69 ?_
          rw [mP_p]
          refine x_aload_n dX4_pieceTold_72 rfl ?_
          refine m_getA (kf := 18) 18 (a := 371) (by decide) rfl rfl q2133 rfl rfl dX4_pieceTold_73 ?_
          refine x_aload_n dX4_pieceTold_76 rfl ?_
          refine m_cv0 (hSg) fX4_sign q2279 (by decide) (Nat.le_of_ble_eq_true rfl) dX4_pieceTold_77 ?_
          refine x_bipush dX4_pieceTold_80 (by decide) ?_
          refine x_isub dX4_pieceTold_82 ?_
          refine m_iald (n := 20) rfl rfl (by decide) (by omega) dX4_pieceTold_83 ?_
          rw [mP_a _ _ _ (by decide), hK.1 371 (by decide) (by decide)]
          refine m_iast (n := 7) rfl rfl (by decide) (by omega) dX4_pieceTold_84 ?_
          rw [bi_t hgood, mP_u2 _ _ _ (by decide)]
          obtain ⟨z1, z2, z3⟩ := hc.resolve_right (fun z => c_22 z.1)
          have hK2 : eqx J (rr_u2 K 375 p (J 371 (mSg I p - 97))) [375] [] := ⟨fun x a b => by
            funext j
            have b2 := b
            simp at b2
            rw [rr_u2_ne _ _ (by omega), hK.1 x a b], fun j hj => by rw [rr_u2_ne _ _ (by omega)]; exact hK.2 j hj⟩
          have hgo := ih (p + 1, 1, rr_u2 K 375 p (J 371 (mSg I p - 97))) ⟨by simp only; omega, hK2, Or.inl ⟨rfl, z2, fun k hk => by
            by_cases e : k = p
            · subst e; exact ⟨hgood, rr_u2_same _ _ _ _⟩
            · simp only
              rw [rr_u2_ne _ _ (by omega)]
              exact z3 k (by simp only at hk; omega)⟩⟩ (by simp only; omega)
          refine x_aload_n dX4_pieceTold_85 rfl ?_
          refine x_dup dX4_pieceTold_86 rfl ?_
          refine m_getI (kf := 2) 2 (by decide) rfl rfl q2117 rfl dX4_pieceTold_87 ?_
          rw [mP_p]
          refine x_iconst dX4_pieceTold_90 ?_
          refine x_iadd dX4_pieceTold_91 ?_
          refine m_putI (kf := 2) 2 (by decide) rfl rfl q2117 rfl rfl (rr_nar_i _) dX4_pieceTold_92 ?_
          rw [mP_setp]
          refine x_goto (t := 21) dX4_pieceTold_95 (by decide) ?_
          exact x_h (by rw [show (((p + 1, 1, rr_u2 K 375 p (J 371 (mSg I p - 97))) : Nat × Int × (Nat → Int → Int)).1 : Int) = (p : Int) + 1 by simp only; omega]) (x_loc (by repeat first | exact trivial | refine ⟨Or.inr rfl, ?_⟩ | refine ⟨Or.inl rfl, ?_⟩) hgo)
      · skip
        refine x_aload_n dX4_pieceTold_40 rfl ?_
        refine m_cv0 (hSg) fX4_sign q2279 (by decide) (Nat.le_of_ble_eq_true rfl) dX4_pieceTold_41 ?_
        refine x_bipush dX4_pieceTold_44 (by decide) ?_
        refine x_isub dX4_pieceTold_46 ?_
        refine x_aload_n dX4_pieceTold_47 rfl ?_
        refine m_getI (kf := 4) 4 (by decide) rfl rfl q2119 rfl dX4_pieceTold_48 ?_
        rw [mP_o _ _ _ (by decide) (by decide), e4K]
        refine x_icmp_ge (t := 58) dX4_pieceTold_51 (by decide) (by omega) (fun c_51 => ?_) (fun c_51 => ?_)
        · skip
          refine x_iconst dX4_pieceTold_58 ?_
          refine x_top (bi (isLt (mSg I p) ∧ mSg I p - 97 < I 360 4)) (by first | exact (bi_t (by omega)).symm | exact (bi_f (by omega)).symm) ?_
          have hg01 := bi_01 (isLt (mSg I p) ∧ mSg I p - 97 < I 360 4)
          refine x_istore_n dX4_pieceTold_59 (by decide) ?_
          refine x_iload_n dX4_pieceTold_60 rfl ?_
          refine x_if_eq (t := 85) dX4_pieceTold_61 (by decide) (by omega) (fun c_61 => ?_) (fun c_61 => ?_)
          · skip
            have hbad : ¬ (isLt (mSg I p) ∧ mSg I p - 97 < I 360 4) := fun z => by rw [bi_t z] at c_61; omega
            rw [bi_f hbad]
            have hnok : ¬ okP I := fun z => hbad (z.2 p (by omega))
            have hgo := ih (p + 1, 0, K) ⟨by simp only; omega, hK, Or.inr ⟨rfl, hnok⟩⟩ (by simp only; omega)
            refine x_aload_n dX4_pieceTold_85 rfl ?_
            refine x_dup dX4_pieceTold_86 rfl ?_
            refine m_getI (kf := 2) 2 (by decide) rfl rfl q2117 rfl dX4_pieceTold_87 ?_
            rw [mP_p]
            refine x_iconst dX4_pieceTold_90 ?_
            refine x_iadd dX4_pieceTold_91 ?_
            refine m_putI (kf := 2) 2 (by decide) rfl rfl q2117 rfl rfl (rr_nar_i _) dX4_pieceTold_92 ?_
            rw [mP_setp]
            refine x_goto (t := 21) dX4_pieceTold_95 (by decide) ?_
            exact x_h (by rw [show (((p + 1, 0, K) : Nat × Int × (Nat → Int → Int)).1 : Int) = (p : Int) + 1 by simp only; omega]) (x_loc (by repeat first | exact trivial | refine ⟨Or.inr rfl, ?_⟩ | refine ⟨Or.inl rfl, ?_⟩) hgo)
          · skip
            have hgood : isLt (mSg I p) ∧ mSg I p - 97 < I 360 4 := Classical.byContradiction fun z => c_61 (bi_f z)
            refine x_aload_n dX4_pieceTold_64 rfl ?_
            refine m_getA (kf := 24) 24 (a := 375) (by decide) rfl rfl q2139 rfl rfl dX4_pieceTold_65 ?_
            refine x_aload_n dX4_pieceTold_68 rfl ?_
            refine m_getI (kf := 2) 2 (by decide) rfl rfl q2117 rfl dX4_pieceTold_69 ?_
            rw [mP_p]
            refine x_aload_n dX4_pieceTold_72 rfl ?_
            refine m_getA (kf := 18) 18 (a := 371) (by decide) rfl rfl q2133 rfl rfl dX4_pieceTold_73 ?_
            refine x_aload_n dX4_pieceTold_76 rfl ?_
            refine m_cv0 (hSg) fX4_sign q2279 (by decide) (Nat.le_of_ble_eq_true rfl) dX4_pieceTold_77 ?_
            refine x_bipush dX4_pieceTold_80 (by decide) ?_
            refine x_isub dX4_pieceTold_82 ?_
            refine m_iald (n := 20) rfl rfl (by decide) (by omega) dX4_pieceTold_83 ?_
            rw [mP_a _ _ _ (by decide), hK.1 371 (by decide) (by decide)]
            refine m_iast (n := 7) rfl rfl (by decide) (by omega) dX4_pieceTold_84 ?_
            rw [bi_t hgood, mP_u2 _ _ _ (by decide)]
            obtain ⟨z1, z2, z3⟩ := hc.resolve_right (fun z => c_22 z.1)
            have hK2 : eqx J (rr_u2 K 375 p (J 371 (mSg I p - 97))) [375] [] := ⟨fun x a b => by
              funext j
              have b2 := b
              simp at b2
              rw [rr_u2_ne _ _ (by omega), hK.1 x a b], fun j hj => by rw [rr_u2_ne _ _ (by omega)]; exact hK.2 j hj⟩
            have hgo := ih (p + 1, 1, rr_u2 K 375 p (J 371 (mSg I p - 97))) ⟨by simp only; omega, hK2, Or.inl ⟨rfl, z2, fun k hk => by
              by_cases e : k = p
              · subst e; exact ⟨hgood, rr_u2_same _ _ _ _⟩
              · simp only
                rw [rr_u2_ne _ _ (by omega)]
                exact z3 k (by simp only at hk; omega)⟩⟩ (by simp only; omega)
            refine x_aload_n dX4_pieceTold_85 rfl ?_
            refine x_dup dX4_pieceTold_86 rfl ?_
            refine m_getI (kf := 2) 2 (by decide) rfl rfl q2117 rfl dX4_pieceTold_87 ?_
            rw [mP_p]
            refine x_iconst dX4_pieceTold_90 ?_
            refine x_iadd dX4_pieceTold_91 ?_
            refine m_putI (kf := 2) 2 (by decide) rfl rfl q2117 rfl rfl (rr_nar_i _) dX4_pieceTold_92 ?_
            rw [mP_setp]
            refine x_goto (t := 21) dX4_pieceTold_95 (by decide) ?_
            exact x_h (by rw [show (((p + 1, 1, rr_u2 K 375 p (J 371 (mSg I p - 97))) : Nat × Int × (Nat → Int → Int)).1 : Int) = (p : Int) + 1 by simp only; omega]) (x_loc (by repeat first | exact trivial | refine ⟨Or.inr rfl, ?_⟩ | refine ⟨Or.inl rfl, ?_⟩) hgo)
        · skip
          refine x_iconst dX4_pieceTold_54 ?_
          refine x_goto (t := 59) dX4_pieceTold_55 (by decide) ?_
          refine x_top (bi (isLt (mSg I p) ∧ mSg I p - 97 < I 360 4)) (by first | exact (bi_t (by omega)).symm | exact (bi_f (by omega)).symm) ?_
          have hg01 := bi_01 (isLt (mSg I p) ∧ mSg I p - 97 < I 360 4)
          refine x_istore_n dX4_pieceTold_59 (by decide) ?_
          refine x_iload_n dX4_pieceTold_60 rfl ?_
          refine x_if_eq (t := 85) dX4_pieceTold_61 (by decide) (by omega) (fun c_61 => ?_) (fun c_61 => ?_)
          · skip
            have hbad : ¬ (isLt (mSg I p) ∧ mSg I p - 97 < I 360 4) := fun z => by rw [bi_t z] at c_61; omega
            rw [bi_f hbad]
            have hnok : ¬ okP I := fun z => hbad (z.2 p (by omega))
            have hgo := ih (p + 1, 0, K) ⟨by simp only; omega, hK, Or.inr ⟨rfl, hnok⟩⟩ (by simp only; omega)
            refine x_aload_n dX4_pieceTold_85 rfl ?_
            refine x_dup dX4_pieceTold_86 rfl ?_
            refine m_getI (kf := 2) 2 (by decide) rfl rfl q2117 rfl dX4_pieceTold_87 ?_
            rw [mP_p]
            refine x_iconst dX4_pieceTold_90 ?_
            refine x_iadd dX4_pieceTold_91 ?_
            refine m_putI (kf := 2) 2 (by decide) rfl rfl q2117 rfl rfl (rr_nar_i _) dX4_pieceTold_92 ?_
            rw [mP_setp]
            refine x_goto (t := 21) dX4_pieceTold_95 (by decide) ?_
            exact x_h (by rw [show (((p + 1, 0, K) : Nat × Int × (Nat → Int → Int)).1 : Int) = (p : Int) + 1 by simp only; omega]) (x_loc (by repeat first | exact trivial | refine ⟨Or.inr rfl, ?_⟩ | refine ⟨Or.inl rfl, ?_⟩) hgo)
          · skip
            have hgood : isLt (mSg I p) ∧ mSg I p - 97 < I 360 4 := Classical.byContradiction fun z => c_61 (bi_f z)
            refine x_aload_n dX4_pieceTold_64 rfl ?_
            refine m_getA (kf := 24) 24 (a := 375) (by decide) rfl rfl q2139 rfl rfl dX4_pieceTold_65 ?_
            refine x_aload_n dX4_pieceTold_68 rfl ?_
            refine m_getI (kf := 2) 2 (by decide) rfl rfl q2117 rfl dX4_pieceTold_69 ?_
            rw [mP_p]
            refine x_aload_n dX4_pieceTold_72 rfl ?_
            refine m_getA (kf := 18) 18 (a := 371) (by decide) rfl rfl q2133 rfl rfl dX4_pieceTold_73 ?_
            refine x_aload_n dX4_pieceTold_76 rfl ?_
            refine m_cv0 (hSg) fX4_sign q2279 (by decide) (Nat.le_of_ble_eq_true rfl) dX4_pieceTold_77 ?_
            refine x_bipush dX4_pieceTold_80 (by decide) ?_
            refine x_isub dX4_pieceTold_82 ?_
            refine m_iald (n := 20) rfl rfl (by decide) (by omega) dX4_pieceTold_83 ?_
            rw [mP_a _ _ _ (by decide), hK.1 371 (by decide) (by decide)]
            refine m_iast (n := 7) rfl rfl (by decide) (by omega) dX4_pieceTold_84 ?_
            rw [bi_t hgood, mP_u2 _ _ _ (by decide)]
            obtain ⟨z1, z2, z3⟩ := hc.resolve_right (fun z => c_22 z.1)
            have hK2 : eqx J (rr_u2 K 375 p (J 371 (mSg I p - 97))) [375] [] := ⟨fun x a b => by
              funext j
              have b2 := b
              simp at b2
              rw [rr_u2_ne _ _ (by omega), hK.1 x a b], fun j hj => by rw [rr_u2_ne _ _ (by omega)]; exact hK.2 j hj⟩
            have hgo := ih (p + 1, 1, rr_u2 K 375 p (J 371 (mSg I p - 97))) ⟨by simp only; omega, hK2, Or.inl ⟨rfl, z2, fun k hk => by
              by_cases e : k = p
              · subst e; exact ⟨hgood, rr_u2_same _ _ _ _⟩
              · simp only
                rw [rr_u2_ne _ _ (by omega)]
                exact z3 k (by simp only at hk; omega)⟩⟩ (by simp only; omega)
            refine x_aload_n dX4_pieceTold_85 rfl ?_
            refine x_dup dX4_pieceTold_86 rfl ?_
            refine m_getI (kf := 2) 2 (by decide) rfl rfl q2117 rfl dX4_pieceTold_87 ?_
            rw [mP_p]
            refine x_iconst dX4_pieceTold_90 ?_
            refine x_iadd dX4_pieceTold_91 ?_
            refine m_putI (kf := 2) 2 (by decide) rfl rfl q2117 rfl rfl (rr_nar_i _) dX4_pieceTold_92 ?_
            rw [mP_setp]
            refine x_goto (t := 21) dX4_pieceTold_95 (by decide) ?_
            exact x_h (by rw [show (((p + 1, 1, rr_u2 K 375 p (J 371 (mSg I p - 97))) : Nat × Int × (Nat → Int → Int)).1 : Int) = (p : Int) + 1 by simp only; omega]) (x_loc (by repeat first | exact trivial | refine ⟨Or.inr rfl, ?_⟩ | refine ⟨Or.inl rfl, ?_⟩) hgo)
def CmPost (I : Nat → Int → Int) (v : List (List Int) → List Int → Int) (z : Int) (J : Nat → Int → Int) : Prop := KeepT I J ∧ Laid J ∧ ((okP I ∧ z = v (m_rows J) (pcL I J)) ∨ (¬ okP I ∧ z = -1))
theorem c_comes {I : Nat → Int → Int} (h1 : 0 ≤ I 360 1 ∧ I 360 1 ≤ 300) (h : MI I) : mQ yX4_comes cX4_comes 2 (some FieldType.int) 7 [vR (some 360)] I (CmPost I comesL) := by
  refine mQ.of (by decide) rfl (Nat.le_of_ble_eq_true rfl) (fun G nx => ?_)
  refine x_ls (ls2 := [some (vR (some 360)), none]) rfl ?_
  refine x_aload_n dX4_comes_0 rfl ?_
  refine m_qv0 (c_pieceTold h1 h) fX4_pieceTold q2561 (by decide) (Nat.le_of_ble_eq_true rfl) dX4_comes_1 (fun n J hJ => ?_)
  obtain ⟨hK, hLd, hc⟩ := hJ
  have hn : 0 ≤ n ∧ n ≤ 300 := by
    rcases hc with z | z
    · omega
    · omega
  refine x_istore_n dX4_comes_4 (by decide) ?_
  refine x_iload_n dX4_comes_5 rfl ?_
  refine x_if_ne (t := 13) dX4_comes_6 (by decide) (by omega) (fun c_6 => ?_) (fun c_6 => ?_)
  · skip
    obtain ⟨z1, z2, z3⟩ := hc.resolve_right (fun z => c_6 z.2)
    have hlen : ((pcL I J).length : Int) = n := by simp [pcL]; omega
    refine x_aload_n dX4_comes_13 rfl ?_
    refine x_iload_n dX4_comes_14 rfl ?_
    refine x_top ((pcL I J).length : Int) hlen.symm ?_
    refine m_cv1 (c_comesOf hLd.re z3 (by omega)) fX4_comesOf q2565 (by decide) (Nat.le_of_ble_eq_true rfl) dX4_comes_15 ?_
    refine x_iret rfl dX4_comes_18 (Nat.le_refl _) (Nat.le_refl _) ?_
    exact ⟨_, rfl, rfl, _, rfl, hK, hLd, Or.inl ⟨z1, rfl⟩⟩
  · skip
    refine x_iconst dX4_comes_9 ?_
    refine x_goto (t := 18) dX4_comes_10 (by decide) ?_
    refine x_iret rfl dX4_comes_18 (Nat.le_refl _) (Nat.le_refl _) ?_
    refine ⟨_, rfl, rfl, _, rfl, hK, hLd, Or.inr ⟨?_, rfl⟩⟩
    rcases hc with ⟨z1, z2, z3⟩ | z
    · have := z1.1; omega
    · exact z.1
theorem c_next {I : Nat → Int → Int} (h1 : 0 ≤ I 360 1 ∧ I 360 1 ≤ 300) (h : MI I) : mQ yX4_next cX4_next 2 (some FieldType.int) 7 [vR (some 360)] I (CmPost I nextL) := by
  refine mQ.of (by decide) rfl (Nat.le_of_ble_eq_true rfl) (fun G nx => ?_)
  refine x_ls (ls2 := [some (vR (some 360)), none]) rfl ?_
  refine x_aload_n dX4_next_0 rfl ?_
  refine m_qv0 (c_pieceTold h1 h) fX4_pieceTold q2561 (by decide) (Nat.le_of_ble_eq_true rfl) dX4_next_1 (fun n J hJ => ?_)
  obtain ⟨hK, hLd, hc⟩ := hJ
  have hn : 0 ≤ n ∧ n ≤ 300 := by
    rcases hc with z | z
    · omega
    · omega
  refine x_istore_n dX4_next_4 (by decide) ?_
  refine x_iload_n dX4_next_5 rfl ?_
  refine x_if_ne (t := 13) dX4_next_6 (by decide) (by omega) (fun c_6 => ?_) (fun c_6 => ?_)
  · skip
    obtain ⟨z1, z2, z3⟩ := hc.resolve_right (fun z => c_6 z.2)
    have hlen : ((pcL I J).length : Int) = n := by simp [pcL]; omega
    refine x_aload_n dX4_next_13 rfl ?_
    refine x_iload_n dX4_next_14 rfl ?_
    refine x_top ((pcL I J).length : Int) hlen.symm ?_
    refine m_cv1 (c_nextOf hLd.re z3 (by omega)) fX4_nextOf q2455 (by decide) (Nat.le_of_ble_eq_true rfl) dX4_next_15 ?_
    refine x_iret rfl dX4_next_18 (Nat.le_refl _) (Nat.le_refl _) ?_
    exact ⟨_, rfl, rfl, _, rfl, hK, hLd, Or.inl ⟨z1, rfl⟩⟩
  · skip
    refine x_iconst dX4_next_9 ?_
    refine x_goto (t := 18) dX4_next_10 (by decide) ?_
    refine x_iret rfl dX4_next_18 (Nat.le_refl _) (Nat.le_refl _) ?_
    refine ⟨_, rfl, rfl, _, rfl, hK, hLd, Or.inr ⟨?_, rfl⟩⟩
    rcases hc with ⟨z1, z2, z3⟩ | z
    · have := z1.1; omega
    · exact z.1
