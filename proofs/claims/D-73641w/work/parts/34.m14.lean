set_option maxRecDepth 100000
/-! THE MODEL's methods, 14: the grid is laid; what is known -/
def ClOK (I : Nat → Int → Int) : Prop := (0 ≤ I 369 3 ∧ I 369 3 ≤ 12) ∧ ∀ m, 0 ≤ m → m < I 369 3 → (0 ≤ I 369 (424 + 3 * m) ∧ I 369 (424 + 3 * m) < I 360 4) ∧ (0 ≤ I 369 (424 + 3 * m + 1) ∧ I 369 (424 + 3 * m + 1) < I 360 4) ∧ (I 369 (424 + 3 * m + 2) = 0 ∨ I 369 (424 + 3 * m + 2) = 1)
/-- a pair of words tells this clue -/
def clW (p q : List Int) (k a b : Int) : Prop := tellsW p q ∧ ((k = 0 ∧ twoOf (lst p) (lst q) a b) ∨ (k = 1 ∧ twoOf (p.getD 0 0) (q.getD 0 0) a b))
def clLt (L : List (List Int × Int)) (w v : Nat) (k a b : Int) : Prop := ∃ (i j : Nat) (p q : List Int × Int), i < j ∧ (i < w ∨ (i = w ∧ j < v)) ∧ L[i]? = some p ∧ L[j]? = some q ∧ clW p.1 q.1 k a b
def clL (L : List (List Int × Int)) (k a b : Int) : Prop := ∃ (i j : Nat) (p q : List Int × Int), i < j ∧ L[i]? = some p ∧ L[j]? = some q ∧ clW p.1 q.1 k a b
def clT (I : Nat → Int → Int) (n k a b : Int) : Prop := ∃ m, (0 ≤ m ∧ m < n) ∧ k = I 369 (424 + 3 * m + 2) ∧ twoOf (I 371 (I 369 (424 + 3 * m))) (I 371 (I 369 (424 + 3 * m + 1))) a b
def CL (I : Nat → Int → Int) (L : List (List Int × Int)) (k a b : Int) : Prop := clL L k a b ∨ clT I (I 369 3) k a b
/-- the groups are laid -/
def GrFin (I : Nat → Int → Int) (P : Int → Int → Int → Prop) (k : Int) : Prop := (∀ f, 0 ≤ f → f < I 360 4 → (0 ≤ sh k (I 383) f ∧ sh k (I 383) f ≤ f) ∧ Con (In2 (I 360 4) (tog I P k)) f (sh k (I 383) f)) ∧ GrCl I P k (I 383)
def GdPost (I : Nat → Int → Int) (L : List (List Int × Int)) (I' : Nat → Int → Int) : Prop := eqx I I' [382, 383] [] ∧ CE I' (CL I L) ∧ GrFin I' (CL I L) 0 ∧ GrFin I' (CL I L) 1
theorem tog_eqx {I J : Nat → Int → Int} (P : Int → Int → Int → Prop) (k : Int) (h : J 371 = I 371) : tog J P k = tog I P k := by funext a b; unfold tog; rw [h]
theorem GrFin_eqx {I J : Nat → Int → Int} {P : Int → Int → Int → Prop} {k : Int} (h : GrFin I P k) (h1 : J 371 = I 371) (h2 : J 360 4 = I 360 4) (h3 : ∀ f, 0 ≤ f → f < I 360 4 → sh k (J 383) f = sh k (I 383) f) : GrFin J P k := by
  unfold GrFin GrCl
  rw [tog_eqx P k h1, h2]
  exact ⟨fun f a b => by rw [h3 f a b]; exact h.1 f a b, fun a b h4 h5 h6 h7 h8 => by rw [h3 a h4 h5, h3 b h6 h7]; exact h.2 a b h4 h5 h6 h7 h8⟩
theorem CE_eqx {I J : Nat → Int → Int} {P : Int → Int → Int → Prop} (h : CE I P) (h1 : J 382 = I 382) : CE J P := by unfold CE; rw [h1]; exact h
theorem SgOK_eqx {I J : Nat → Int → Int} (h : SgOK I) (h1 : J 371 = I 371) (h2 : J 360 4 = I 360 4) : SgOK J := by unfold SgOK; rw [h1, h2]; exact h
theorem c_laysGrid {I : Nat → Int → Int} {L : List (List Int × Int)} (hf : 0 ≤ I 360 4 ∧ I 360 4 ≤ 20) (hW : WE I L) (hL : L.length ≤ 240) (hsg : SgOK I) (hcl : ClOK I) : mE yX4_laysGrid cX4_laysGrid 3 none 3 [vR (some 360)] I (GdPost I L) := by
  have h25 := hW.1
  refine mE.of (by decide) rfl (Nat.le_of_ble_eq_true rfl) (fun G nx => ?_)
  refine x_ls (ls2 := [some (vR (some 360)), none, none]) rfl ?_
  refine x_iconst dX4_laysGrid_0 ?_
  refine x_istore_n dX4_laysGrid_1 (by decide) ?_
  refine x_h (h2 := mh (fl I 382 0 0 (fun _ => 0))) (by rw [fl_0 _ 382 (by omega)]) ?_
  refine rr_ind (W := fun k => me G yX4_laysGrid cX4_laysGrid 3 none 3 nx _ 2 [some (vR (some 360)), some (vI k), none] [] (fl I 382 0 k (fun _ => 0))) (fun k => (800 - k).toNat) (fun k => 0 ≤ k ∧ k ≤ 800) ?_ 0 (by omega)
  intro k hk ih
  refine x_iload_n dX4_laysGrid_2 rfl ?_
  refine x_sipush dX4_laysGrid_3 (by decide) ?_
  refine x_icmp_ge (t := 22) dX4_laysGrid_6 (by decide) (by omega) (fun c_6 => ?_) (fun c_6 => ?_)
  · skip
    have hk2 : k = 800 := by omega
    subst hk2
    refine x_iconst dX4_laysGrid_22 ?_
    refine x_istore_n dX4_laysGrid_23 (by decide) ?_
    generalize hJ0 : fl I 382 0 800 (fun _ => 0) = J0
    have h0 : eqx I J0 [382] [] ∧ CE J0 (clLt L 0 0) := by
      refine ⟨⟨fun x h1 h2 => ?_, fun j _ => ?_⟩, fun k a b h1 h2 h3 => ?_⟩
      · funext j
        simp at h2
        rw [← hJ0, fl_o _ _ _ _ _ (by omega)]
      · rw [← hJ0, fl_o _ _ _ _ _ (by omega)]
      · have := clueAt_in h1 h2 h3
        rw [← hJ0, bi_f (fun ⟨i, j, p, q, z1, z2, _⟩ => by omega)]
        simp only [fl]
        rw [if_pos ⟨trivial, by omega, by omega⟩]
    clear hJ0 ih hk
    refine x_loc (ls2 := [some (vR (some 360)), some (vI (((0 : Nat), J0).1 : Int)), none]) (by repeat first | exact trivial | refine ⟨Or.inr rfl, ?_⟩ | refine ⟨Or.inl rfl, ?_⟩) ?_
    refine rr_ind (W := fun q : Nat × (Nat → Int → Int) => me G yX4_laysGrid cX4_laysGrid 3 none 3 nx _ 24 [some (vR (some 360)), some (vI (q.1 : Int)), none] [] q.2) (fun q => L.length - q.1) (fun q => q.1 ≤ L.length ∧ eqx I q.2 [382] [] ∧ CE q.2 (clLt L q.1 0)) ?_ (0, J0) ⟨by simp, h0⟩
    rintro ⟨w, J⟩ ⟨hw, hJ, hC⟩ ih
    simp only at hw hJ hC ih
    dsimp only
    refine x_iload_n dX4_laysGrid_24 rfl ?_
    refine x_aload_n dX4_laysGrid_25 rfl ?_
    refine m_getI (kf := 25) 25 (by decide) rfl rfl q2140 rfl dX4_laysGrid_26 ?_
    rw [hJ.2 25 (by decide), h25]
    refine x_icmp_ge (t := 62) dX4_laysGrid_29 (by decide) (by omega) (fun c_29 => ?_) (fun c_29 => ?_)
    · skip
      refine x_iconst dX4_laysGrid_62 ?_
      refine x_istore_n dX4_laysGrid_63 (by decide) ?_
      have hw2 : w = L.length := by omega
      have hC2 : CE J (fun k a b => clL L k a b ∨ clT I 0 k a b) := hC.iff (fun k a b _ _ _ => ⟨fun ⟨i, j, p, q, z1, z2, z3⟩ => Or.inl ⟨i, j, p, q, z1, z3⟩, fun z => z.elim (fun ⟨i, j, p, q, z1, z3⟩ => ⟨i, j, p, q, z1, by have := (List.getElem?_eq_some_iff.mp z3.1).1; omega, z3⟩) (fun ⟨m, z1, _⟩ => by omega)⟩)
      refine rr_ind (W := fun q : Int × (Nat → Int → Int) => me G yX4_laysGrid cX4_laysGrid 3 none 3 nx _ 64 [some (vR (some 360)), some (vI q.1), none] [] q.2) (fun q => (I 369 3 - q.1).toNat) (fun q => (0 ≤ q.1 ∧ q.1 ≤ I 369 3) ∧ eqx I q.2 [382] [] ∧ CE q.2 (fun k a b => clL L k a b ∨ clT I q.1 k a b)) ?_ (0, J) ⟨by have := hcl.1; simp only; omega, hJ, hC2⟩
      clear hJ hC hC2 ih
      rintro ⟨m, J⟩ ⟨hm, hJ, hC⟩ ih
      simp only at hm hJ hC ih
      dsimp only
      have h12 := hcl.1
      have e369 := hJ.1 369 (by decide) (by decide)
      have e371 := hJ.1 371 (by decide) (by decide)
      refine x_iload_n dX4_laysGrid_64 rfl ?_
      refine x_aload_n dX4_laysGrid_65 rfl ?_
      refine m_getA (kf := 15) 15 (a := 369) (by decide) rfl rfl q2130 rfl rfl dX4_laysGrid_66 ?_
      refine x_iconst dX4_laysGrid_69 ?_
      refine m_iald (n := 460) rfl rfl (by decide) (by omega) dX4_laysGrid_70 ?_
      rw [e369]
      refine x_icmp_ge (t := 124) dX4_laysGrid_71 (by decide) (by omega) (fun c_71 => ?_) (fun c_71 => ?_)
      · skip
        have hm2 : m = I 369 3 := by omega
        subst hm2
        have hsJ : SgOK J := SgOK_eqx hsg e371 (hJ.2 4 (by decide))
        have h4J : 0 ≤ J 360 4 ∧ J 360 4 ≤ 20 := by rw [hJ.2 4 (by decide)]; exact hf
        refine x_aload_n dX4_laysGrid_124 rfl ?_
        refine x_iconst dX4_laysGrid_125 ?_
        refine m_ew1 (c_laysGroups (P := CL I L) h4J (Or.inl rfl) hsJ hC) fX4_laysGroups q2494 (by decide) (Nat.le_of_ble_eq_true rfl) dX4_laysGrid_126 (fun J1 hJ1 => ?_)
        have hs1 : SgOK J1 := SgOK_eqx hsJ (hJ1.1.1 371 (by decide) (by decide)) (hJ1.1.2 4 (by decide))
        have h41 : 0 ≤ J1 360 4 ∧ J1 360 4 ≤ 20 := by rw [hJ1.1.2 4 (by decide)]; exact h4J
        have hC1 : CE J1 (CL I L) := CE_eqx hC (hJ1.1.1 382 (by decide) (by decide))
        refine x_aload_n dX4_laysGrid_129 rfl ?_
        refine x_iconst dX4_laysGrid_130 ?_
        refine m_ew1 (c_laysGroups (P := CL I L) h41 (Or.inr rfl) hs1 hC1) fX4_laysGroups q2494 (by decide) (Nat.le_of_ble_eq_true rfl) dX4_laysGrid_131 (fun J2 hJ2 => ?_)
        refine x_vret rfl dX4_laysGrid_134 (Nat.le_refl _) (Nat.le_refl _) ?_
        refine ⟨rfl, rfl, _, rfl, (hJ.mono (by decide) (by decide)).tr ((hJ1.1.mono (by decide) (by decide)).tr (hJ2.1.mono (by decide) (by decide))), CE_eqx hC1 (hJ2.1.1 382 (by decide) (by decide)), ?_, ?_⟩
        · have hg1 : GrFin J1 (CL I L) 0 := by
            refine ⟨fun f a b => ?_, ?_⟩
            · have := hJ1.2.1.2 f a (by rw [← hJ1.1.2 4 (by decide)]; exact b)
              rw [hJ1.1.2 4 (by decide), tog_eqx (CL I L) 0 (hJ1.1.1 371 (by decide) (by decide))]
              exact this
            · have := hJ1.2.2
              unfold GrCl at *
              rw [hJ1.1.2 4 (by decide), tog_eqx (CL I L) 0 (hJ1.1.1 371 (by decide) (by decide))]
              exact this
          refine GrFin_eqx hg1 (hJ2.1.1 371 (by decide) (by decide)) (hJ2.1.2 4 (by decide)) (fun f a b => ?_)
          unfold sh
          exact hJ2.2.1.1 _ (by omega)
        · refine ⟨fun f a b => ?_, ?_⟩
          · have := hJ2.2.1.2 f a (by rw [← hJ2.1.2 4 (by decide)]; exact b)
            rw [hJ2.1.2 4 (by decide), tog_eqx (CL I L) 1 (hJ2.1.1 371 (by decide) (by decide))]
            exact this
          · have := hJ2.2.2
            unfold GrCl at *
            rw [hJ2.1.2 4 (by decide), tog_eqx (CL I L) 1 (hJ2.1.1 371 (by decide) (by decide))]
            exact this
      · skip
        have hmm := hcl.2 m hm.1 (by omega)
        have ha := hsg _ hmm.1.1 hmm.1.2
        have hb := hsg _ hmm.2.1.1 hmm.2.1.2
        refine x_sipush dX4_laysGrid_74 (by decide) ?_
        refine x_iconst dX4_laysGrid_77 ?_
        refine x_iload_n dX4_laysGrid_78 rfl ?_
        refine x_imul dX4_laysGrid_79 ?_
        refine x_iadd dX4_laysGrid_80 ?_
        refine x_istore_n dX4_laysGrid_81 (by decide) ?_
        refine x_aload_n dX4_laysGrid_82 rfl ?_
        refine x_aload_n dX4_laysGrid_83 rfl ?_
        refine m_getA (kf := 15) 15 (a := 369) (by decide) rfl rfl q2130 rfl rfl dX4_laysGrid_84 ?_
        refine x_iload_n dX4_laysGrid_87 rfl ?_
        refine x_iconst dX4_laysGrid_88 ?_
        refine x_iadd dX4_laysGrid_89 ?_
        refine m_iald (n := 460) rfl rfl (by decide) (by omega) dX4_laysGrid_90 ?_
        rw [e369]
        refine x_aload_n dX4_laysGrid_91 rfl ?_
        refine m_getA (kf := 18) 18 (a := 371) (by decide) rfl rfl q2133 rfl rfl dX4_laysGrid_92 ?_
        refine x_aload_n dX4_laysGrid_95 rfl ?_
        refine m_getA (kf := 15) 15 (a := 369) (by decide) rfl rfl q2130 rfl rfl dX4_laysGrid_96 ?_
        refine x_iload_n dX4_laysGrid_99 rfl ?_
        refine m_iald (n := 460) rfl rfl (by decide) (by omega) dX4_laysGrid_100 ?_
        rw [e369]
        refine m_iald (n := 20) rfl rfl (by decide) (by omega) dX4_laysGrid_101 ?_
        rw [e371]
        refine x_aload_n dX4_laysGrid_102 rfl ?_
        refine m_getA (kf := 18) 18 (a := 371) (by decide) rfl rfl q2133 rfl rfl dX4_laysGrid_103 ?_
        refine x_aload_n dX4_laysGrid_106 rfl ?_
        refine m_getA (kf := 15) 15 (a := 369) (by decide) rfl rfl q2130 rfl rfl dX4_laysGrid_107 ?_
        refine x_iload_n dX4_laysGrid_110 rfl ?_
        refine x_iconst dX4_laysGrid_111 ?_
        refine x_iadd dX4_laysGrid_112 ?_
        refine m_iald (n := 460) rfl rfl (by decide) (by omega) dX4_laysGrid_113 ?_
        rw [e369]
        refine m_iald (n := 20) rfl rfl (by decide) (by omega) dX4_laysGrid_114 ?_
        rw [e371]
        refine m_cw3 (c_tellsClue (by omega) (by omega) (by omega)) fX4_tellsClue q2487 (by decide) (Nat.le_of_ble_eq_true rfl) dX4_laysGrid_115 ?_
        refine x_iinc dX4_laysGrid_118 rfl (by decide) ?_
        refine x_goto (t := 64) dX4_laysGrid_121 (by decide) ?_
        have htc := hC.tc (k := I 369 (424 + 3 * m + 2)) (x := I 371 (I 369 (424 + 3 * m))) (y := I 371 (I 369 (424 + 3 * m + 1))) (by omega) (by omega)
        generalize hT : mTC J (I 369 (424 + 3 * m + 2)) (I 371 (I 369 (424 + 3 * m))) (I 371 (I 369 (424 + 3 * m + 1))) = T at *
        have hJ2 : eqx I T [382] [] := ⟨fun x h1 h2 => by rw [← hT, mTC_ne _ _ _ _ (by simpa using h2)]; exact hJ.1 x h1 h2, fun j hj => by rw [← hT, mTC_ne _ _ _ _ (by decide)]; exact hJ.2 j hj⟩
        have hgo := ih (m + 1, T) ⟨by simp only; omega, hJ2, htc.iff (fun k a b _ _ _ => by
          constructor
          · rintro ((z | ⟨m', z1, z2⟩) | z)
            · exact Or.inl z
            · exact Or.inr ⟨m', by omega, z2⟩
            · exact Or.inr ⟨m, by omega, z⟩
          · rintro (z | ⟨m', z1, z2⟩)
            · exact Or.inl (Or.inl z)
            · by_cases e : m' = m
              · subst e; exact Or.inr z2
              · exact Or.inl (Or.inr ⟨m', by omega, z2⟩))⟩ (by simp only; omega)
        exact x_loc (by repeat first | exact trivial | refine ⟨Or.inr rfl, ?_⟩ | refine ⟨Or.inl rfl, ?_⟩) hgo
    · skip
      refine x_iload_n dX4_laysGrid_32 rfl ?_
      refine x_iconst dX4_laysGrid_33 ?_
      refine x_iadd dX4_laysGrid_34 ?_
      refine x_istore_n dX4_laysGrid_35 (by decide) ?_
      have hwl : w < L.length := by omega
      have hCw : CE J (clLt L w (w + 1)) := hC.iff (fun k a b _ _ _ => ⟨fun ⟨i, j, p, q, z1, z2, z3⟩ => ⟨i, j, p, q, z1, by omega, z3⟩, fun ⟨i, j, p, q, z1, z2, z3⟩ => ⟨i, j, p, q, z1, by omega, z3⟩⟩)
      refine x_loc (ls2 := [some (vR (some 360)), some (vI (w : Int)), some (vI ((w + 1, J).1 : Int))]) (by rw [show (((w + 1, J) : Nat × (Nat → Int → Int)).1 : Int) = (w : Int) + 1 by simp only; omega]; exact (by repeat first | exact trivial | refine ⟨Or.inr rfl, ?_⟩ | refine ⟨Or.inl rfl, ?_⟩)) ?_
      refine rr_ind (W := fun q : Nat × (Nat → Int → Int) => me G yX4_laysGrid cX4_laysGrid 3 none 3 nx _ 36 [some (vR (some 360)), some (vI (w : Int)), some (vI (q.1 : Int))] [] q.2) (fun q => L.length - q.1) (fun q => (w < q.1 ∧ q.1 ≤ L.length) ∧ eqx I q.2 [382] [] ∧ CE q.2 (clLt L w q.1)) ?_ (w + 1, J) ⟨by simp only; omega, hJ, hCw⟩
      clear hJ hC hCw
      rintro ⟨v, J⟩ ⟨hv, hJ, hC⟩ ih2
      simp only at hv hJ hC ih2
      dsimp only
      refine x_iload_n dX4_laysGrid_36 rfl ?_
      refine x_aload_n dX4_laysGrid_37 rfl ?_
      refine m_getI (kf := 25) 25 (by decide) rfl rfl q2140 rfl dX4_laysGrid_38 ?_
      rw [hJ.2 25 (by decide), h25]
      refine x_icmp_ge (t := 56) dX4_laysGrid_41 (by decide) (by omega) (fun c_41 => ?_) (fun c_41 => ?_)
      · skip
        have hgo := ih (w + 1, J) ⟨by simp only; omega, hJ, hC.iff (fun k a b _ _ _ => ⟨fun ⟨i, j, p, q, z1, z2, z3⟩ => ⟨i, j, p, q, z1, by simp only; omega, z3⟩, fun ⟨i, j, p, q, z1, z2, z3⟩ => ⟨i, j, p, q, z1, by have := (List.getElem?_eq_some_iff.mp z3.2.1).1; simp only at z2; omega, z3⟩⟩)⟩ (by simp only; omega)
        refine x_iinc dX4_laysGrid_56 rfl (by decide) ?_
        refine x_goto (t := 24) dX4_laysGrid_59 (by decide) ?_
        exact x_loc (by rw [show (((w + 1, J) : Nat × (Nat → Int → Int)).1 : Int) = (w : Int) + 1 by simp only; omega]; exact (by repeat first | exact trivial | refine ⟨Or.inr rfl, ?_⟩ | refine ⟨Or.inl rfl, ?_⟩)) hgo
      · skip
        have hvl : v < L.length := by omega
        have hwp : L[w]? = some L[w] := List.getElem?_eq_getElem hwl
        have hvp : L[v]? = some L[v] := List.getElem?_eq_getElem hvl
        have hp := (hW.2 w _ hwp).2
        have hq := (hW.2 v _ hvp).2
        refine x_aload_n dX4_laysGrid_44 rfl ?_
        refine x_iload_n dX4_laysGrid_45 rfl ?_
        refine x_iload_n dX4_laysGrid_46 rfl ?_
        refine m_cw2 (c_cluesOf (WE_eqx hW hJ (by decide) (by decide) (by decide) (by decide)) hL hwp hvp) fX4_cluesOf q2479 (by decide) (Nat.le_of_ble_eq_true rfl) dX4_laysGrid_47 ?_
        refine x_iinc dX4_laysGrid_50 rfl (by decide) ?_
        refine x_goto (t := 36) dX4_laysGrid_53 (by decide) ?_
        have hco := hC.co hp hq
        have hJ2 : eqx I (mCO J L[w].1 L[v].1) [382] [] := ⟨fun x h1 h2 => by rw [mCO_ne _ _ _ (by simpa using h2)]; exact hJ.1 x h1 h2, fun j hj => by rw [mCO_ne _ _ _ (by decide)]; exact hJ.2 j hj⟩
        have hgo := ih2 (v + 1, mCO J L[w].1 L[v].1) ⟨by simp only; omega, hJ2, hco.iff (fun k a b _ _ _ => by
          constructor
          · rintro (⟨i, j, p, q, z1, z2, z3⟩ | z)
            · exact ⟨i, j, p, q, z1, by simp only; omega, z3⟩
            · exact ⟨w, v, _, _, hv.1, Or.inr ⟨rfl, by simp⟩, hwp, hvp, z⟩
          · rintro ⟨i, j, p, q, z1, z2, z3, z4, z5⟩
            simp only at z2
            by_cases e : i = w ∧ j = v
            · obtain ⟨rfl, rfl⟩ := e
              rw [hwp] at z3
              rw [hvp] at z4
              simp only [Option.some.injEq] at z3 z4
              subst z3
              subst z4
              exact Or.inr z5
            · exact Or.inl ⟨i, j, p, q, z1, by omega, z3, z4, z5⟩)⟩ (by simp only; omega)
        exact x_loc (by rw [show (((v + 1, mCO J L[w].1 L[v].1) : Nat × (Nat → Int → Int)).1 : Int) = (v : Int) + 1 by simp only; omega]; exact (by repeat first | exact trivial | refine ⟨Or.inr rfl, ?_⟩ | refine ⟨Or.inl rfl, ?_⟩)) hgo
  · skip
    refine x_aload_n dX4_laysGrid_9 rfl ?_
    refine m_getA (kf := 34) 34 (a := 382) (by decide) rfl rfl q2149 rfl rfl dX4_laysGrid_10 ?_
    refine x_iload_n dX4_laysGrid_13 rfl ?_
    refine x_iconst dX4_laysGrid_14 ?_
    refine m_zast (n := 800) rfl rfl (by decide) (by omega) (by first | exact Or.inl rfl | exact Or.inr rfl | omega) dX4_laysGrid_15 ?_
    rw [show rr_u2 (fl I 382 0 k (fun _ => 0)) 382 k 0 = fl I 382 0 (k + 1) (fun _ => 0) from by apply rr_u2_eq; intro x j; simp only [rr_u2, fl]; grind (splits := 20)]
    refine x_iinc dX4_laysGrid_16 rfl (by decide) ?_
    refine x_goto (t := 2) dX4_laysGrid_19 (by decide) ?_
    exact ih (k + 1) (by omega) (by omega)
def partOf (g k : Int) : Int := if k = 0 then g / 5 else g % 5
theorem c_partOf {I : Nat → Int → Int} {g k : Int} (hg : 0 ≤ g ∧ g < 1000) (hk : 0 ≤ k ∧ k < 2) : mC yX4_partOf cX4_partOf 2 (some FieldType.int) 0 [vI g, vI k] I (some (vI (partOf g k))) I := by
  refine mC.of (by decide) rfl (Nat.le_of_ble_eq_true rfl) (fun G nx => ?_)
  refine x_ls (ls2 := [some (vI g), some (vI k)]) rfl ?_
  unfold partOf
  refine x_iload_n dX4_partOf_0 rfl ?_
  refine x_if_ne (t := 10) dX4_partOf_1 (by decide) (by omega) (fun c_1 => ?_) (fun c_1 => ?_)
  · skip
    rw [if_neg c_1]
    refine x_iload_n dX4_partOf_10 rfl ?_
    refine x_iconst dX4_partOf_11 ?_
    refine x_irem dX4_partOf_12 (by omega) (by omega) ?_
    refine x_iret rfl dX4_partOf_13 (Nat.le_refl _) (Nat.le_refl _) ?_
    exact ⟨rfl, rfl, rfl⟩
  · skip
    rw [if_pos c_1]
    refine x_iload_n dX4_partOf_4 rfl ?_
    refine x_iconst dX4_partOf_5 ?_
    refine x_idiv dX4_partOf_6 (by omega) (by omega) ?_
    refine x_goto (t := 13) dX4_partOf_7 (by decide) ?_
    refine x_iret rfl dX4_partOf_13 (Nat.le_refl _) (Nat.le_refl _) ?_
    exact ⟨rfl, rfl, rfl⟩
theorem partOf_in {g k : Int} (hg : 0 ≤ g ∧ g < 50) : 0 ≤ partOf g k ∧ partOf g k < 10 := by unfold partOf; split <;> omega
/-- the value at the least one that Q holds of; none -/
noncomputable def lsN (Q : Int → Prop) (v : Int → Int) : Nat → Int → Int
  | 0, _ => -1
  | k + 1, lo => @ite _ (Q lo) (Classical.propDecidable _) (v lo) (lsN Q v k (lo + 1))
noncomputable def lsV (Q : Int → Prop) (v : Int → Int) (lo hi : Int) : Int := lsN Q v (hi - lo).toNat lo
theorem lsV_stop (Q : Int → Prop) (v : Int → Int) {lo hi : Int} (h : hi ≤ lo) : lsV Q v lo hi = -1 := by
  unfold lsV; rw [show (hi - lo).toNat = 0 by omega]; rfl
theorem lsV_step (Q : Int → Prop) (v : Int → Int) {lo hi : Int} (h : lo < hi) : lsV Q v lo hi = @ite _ (Q lo) (Classical.propDecidable _) (v lo) (lsV Q v (lo + 1) hi) := by
  unfold lsV
  rw [show (hi - lo).toNat = (hi - (lo + 1)).toNat + 1 by omega]
  rfl
/-- a guess of the group -/
def gsd (I : Nat → Int → Int) (k f g : Int) : Prop := I 369 (4 + g) ≠ -1 ∧ sh k (I 383) g = sh k (I 383) f
noncomputable def knV (I : Nat → Int → Int) (k f : Int) : Int := lsV (gsd I k f) (fun g => partOf (I 369 (4 + g)) k) 0 (I 360 4)
def GsOK (I : Nat → Int → Int) : Prop := ∀ f, 0 ≤ f → f < 20 → -1 ≤ I 369 (4 + f) ∧ I 369 (4 + f) < 50
def GrIn (I : Nat → Int → Int) : Prop := ∀ k f, (k = 0 ∨ k = 1) → 0 ≤ f → f < I 360 4 → 0 ≤ I 383 (20 * k + f) ∧ I 383 (20 * k + f) ≤ f
def KnE (I J : Nat → Int → Int) (k f : Int) : Prop := eqx I J [385] [] ∧ ∀ k' f', (k' = 0 ∨ k' = 1) → 0 ≤ f' → f' < I 360 4 → (k' < k ∨ (k' = k ∧ f' < f)) → J 385 (20 * k' + f') = knV I k' f'
def KnPost (I J : Nat → Int → Int) : Prop := eqx I J [385] [] ∧ ∀ k f, (k = 0 ∨ k = 1) → 0 ≤ f → f < I 360 4 → J 385 (20 * k + f) = knV I k f
theorem c_laysKnown {I : Nat → Int → Int} (hf : 0 ≤ I 360 4 ∧ I 360 4 ≤ 20) (hg : GsOK I) (hgr : GrIn I) : mE yX4_laysKnown cX4_laysKnown 4 none 1 [vR (some 360)] I (KnPost I) := by
  refine mE.of (by decide) rfl (Nat.le_of_ble_eq_true rfl) (fun G nx => ?_)
  refine x_ls (ls2 := [some (vR (some 360)), none, none, none]) rfl ?_
  refine x_iconst dX4_laysKnown_0 ?_
  refine x_istore_n dX4_laysKnown_1 (by decide) ?_
  refine rr_ind (W := fun q : Int × (Nat → Int → Int) => me G yX4_laysKnown cX4_laysKnown 4 none 1 nx _ 2 [some (vR (some 360)), some (vI q.1), none, none] [] q.2) (fun q => (2 - q.1).toNat) (fun q => (0 ≤ q.1 ∧ q.1 ≤ 2) ∧ KnE I q.2 q.1 0) ?_ (0, I) ⟨by simp, eqx.rf _ _ _, fun k' f' h1 h2 h3 h4 => by simp only at h4; omega⟩
  rintro ⟨k, J⟩ ⟨hk, hJ⟩ ih
  simp only at hk hJ ih
  dsimp only
  refine x_iload_n dX4_laysKnown_2 rfl ?_
  refine x_iconst dX4_laysKnown_3 ?_
  refine x_icmp_ge (t := 118) dX4_laysKnown_4 (by decide) (by omega) (fun c_4 => ?_) (fun c_4 => ?_)
  · skip
    refine x_vret rfl dX4_laysKnown_118 (Nat.le_refl _) (Nat.le_refl _) ?_
    refine ⟨rfl, rfl, _, rfl, hJ.1, fun k' f' h1 h2 h3 => hJ.2 k' f' h1 h2 h3 (by omega)⟩
  · skip
    refine x_iconst dX4_laysKnown_7 ?_
    refine x_istore_n dX4_laysKnown_8 (by decide) ?_
    refine rr_ind (W := fun q : Int × (Nat → Int → Int) => me G yX4_laysKnown cX4_laysKnown 4 none 1 nx _ 9 [some (vR (some 360)), some (vI k), some (vI q.1), none] [] q.2) (fun q => (I 360 4 - q.1).toNat) (fun q => (0 ≤ q.1 ∧ q.1 ≤ I 360 4) ∧ KnE I q.2 k q.1) ?_ (0, J) ⟨by simp only; omega, hJ⟩
    clear hJ
    rintro ⟨f, J⟩ ⟨hf2, hJ⟩ ih2
    simp only at hf2 hJ ih2
    dsimp only
    have e4 := hJ.1.2 4 (by decide)
    refine x_iload_n dX4_laysKnown_9 rfl ?_
    refine x_aload_n dX4_laysKnown_10 rfl ?_
    refine m_getI (kf := 4) 4 (by decide) rfl rfl q2119 rfl dX4_laysKnown_11 ?_
    rw [e4]
    refine x_icmp_ge (t := 112) dX4_laysKnown_14 (by decide) (by omega) (fun c_14 => ?_) (fun c_14 => ?_)
    · skip
      have hgo := ih (k + 1, J) ⟨by simp only; omega, hJ.1, fun k' f' h1 h2 h3 h4 => hJ.2 k' f' h1 h2 h3 (by simp only at h4; omega)⟩ (by simp only; omega)
      refine x_iinc dX4_laysKnown_112 rfl (by decide) ?_
      refine x_goto (t := 2) dX4_laysKnown_115 (by decide) ?_
      exact x_loc (by repeat first | exact trivial | refine ⟨Or.inr rfl, ?_⟩ | refine ⟨Or.inl rfl, ?_⟩) hgo
    · skip
      refine x_aload_n dX4_laysKnown_17 rfl ?_
      refine m_getA (kf := 37) 37 (a := 385) (by decide) rfl rfl q2152 rfl rfl dX4_laysKnown_18 ?_
      refine x_bipush dX4_laysKnown_21 (by decide) ?_
      refine x_iload_n dX4_laysKnown_23 rfl ?_
      refine x_imul dX4_laysKnown_24 ?_
      refine x_iload_n dX4_laysKnown_25 rfl ?_
      refine x_iadd dX4_laysKnown_26 ?_
      refine x_iconst dX4_laysKnown_27 ?_
      refine m_iast (n := 40) rfl rfl (by decide) (by omega) dX4_laysKnown_28 ?_
      refine x_aload_n dX4_laysKnown_29 rfl ?_
      refine m_getI (kf := 4) 4 (by decide) rfl rfl q2119 rfl dX4_laysKnown_30 ?_
      rw [rr_u2_ne _ _ (by omega), e4]
      refine x_iconst dX4_laysKnown_33 ?_
      refine x_isub dX4_laysKnown_34 ?_
      refine x_istore_n dX4_laysKnown_35 (by decide) ?_
      have hgf := hgr k f (by omega) hf2.1 (by omega)
      have e369 : ∀ v, rr_u2 J 385 (20 * k + f) v 369 = I 369 := fun v => by funext j; rw [rr_u2_ne _ _ (by omega), hJ.1.1 369 (by decide) (by decide)]
      have e383 : ∀ v, rr_u2 J 385 (20 * k + f) v 383 = I 383 := fun v => by funext j; rw [rr_u2_ne _ _ (by omega), hJ.1.1 383 (by decide) (by decide)]
      refine x_h (h2 := mh (rr_u2 J 385 (20 * k + f) (lsV (gsd I k f) (fun g => partOf (I 369 (4 + g)) k) (I 360 4 - 1 + 1) (I 360 4)))) (by rw [lsV_stop _ _ (by omega)]) ?_
      refine rr_ind (W := fun g => me G yX4_laysKnown cX4_laysKnown 4 none 1 nx _ 36 [some (vR (some 360)), some (vI k), some (vI f), some (vI g)] [] (rr_u2 J 385 (20 * k + f) (lsV (gsd I k f) (fun g => partOf (I 369 (4 + g)) k) (g + 1) (I 360 4)))) (fun g => (g + 1).toNat) (fun g => -1 ≤ g ∧ g < I 360 4) ?_ (I 360 4 - 1) (by omega)
      intro g hg2 ih3
      have hstep : 0 ≤ g → lsV (gsd I k f) (fun g => partOf (I 369 (4 + g)) k) g (I 360 4) = @ite _ (gsd I k f g) (Classical.propDecidable _) (partOf (I 369 (4 + g)) k) (lsV (gsd I k f) (fun g => partOf (I 369 (4 + g)) k) (g + 1) (I 360 4)) := fun q => lsV_step _ _ (by omega)
      have hgg := fun h => hg g h (by omega)
      have hgr2 := fun h => hgr k g (by omega) h (by omega)
      have hskip : 0 ≤ g → ¬ gsd I k f g → me G yX4_laysKnown cX4_laysKnown 4 none 1 nx _ 36 [some (vR (some 360)), some (vI k), some (vI f), some (vI (g + -1))] [] (rr_u2 J 385 (20 * k + f) (lsV (gsd I k f) (fun g => partOf (I 369 (4 + g)) k) (g + 1) (I 360 4))) := fun h1 h2 => by
        have := ih3 (g + -1) (by omega) (by omega)
        rw [show g + -1 + 1 = g by omega, hstep h1, if_neg h2] at this
        exact this
      refine x_iload_n dX4_laysKnown_36 rfl ?_
      refine x_if_lt (t := 106) dX4_laysKnown_37 (by decide) (by omega) (fun c_37 => ?_) (fun c_37 => ?_)
      · skip
        have hg0 : g = -1 := by omega
        subst hg0
        generalize hV : rr_u2 J 385 (20 * k + f) (lsV (gsd I k f) (fun g => partOf (I 369 (4 + g)) k) (-1 + 1) (I 360 4)) = V
        have hE : KnE I V k (f + 1) := by
          rw [← hV]
          refine ⟨⟨fun x h1 h2 => ?_, fun j hj => by rw [rr_u2_ne _ _ (by omega)]; exact hJ.1.2 j hj⟩, fun k' f' h1 h2 h3 h4 => ?_⟩
          · funext j
            have h5 := h2
            simp at h5
            rw [rr_u2_ne _ _ (by omega), hJ.1.1 x h1 h2]
          · by_cases e : k' = k ∧ f' = f
            · rw [e.1, e.2, rr_u2_same]; rfl
            · rw [rr_u2_ne _ _ (by omega)]; exact hJ.2 k' f' h1 h2 h3 (by omega)
        have hgo := ih2 (f + 1, V) ⟨by simp only; omega, hE⟩ (by simp only; omega)
        refine x_iinc dX4_laysKnown_106 rfl (by decide) ?_
        refine x_goto (t := 9) dX4_laysKnown_109 (by decide) ?_
        exact x_loc (by repeat first | exact trivial | refine ⟨Or.inr rfl, ?_⟩ | refine ⟨Or.inl rfl, ?_⟩) hgo
      · skip
        have hgg := hgg (by omega)
        have hgr2 := hgr2 (by omega)
        refine x_aload_n dX4_laysKnown_40 rfl ?_
        refine m_getA (kf := 15) 15 (a := 369) (by decide) rfl rfl q2130 rfl rfl dX4_laysKnown_41 ?_
        refine x_iconst dX4_laysKnown_44 ?_
        refine x_iload_n dX4_laysKnown_45 rfl ?_
        refine x_iadd dX4_laysKnown_46 ?_
        refine m_iald (n := 460) rfl rfl (by decide) (by omega) dX4_laysKnown_47 ?_
        rw [e369]
        refine x_iconst dX4_laysKnown_48 ?_
        refine x_icmp_eq (t := 100) dX4_laysKnown_49 (by decide) (by omega) (fun c_49 => ?_) (fun c_49 => ?_)
        · skip
          have hgo := hskip (by omega) (fun z => z.1 c_49)
          refine x_iinc dX4_laysKnown_100 rfl (by decide) ?_
          refine x_goto (t := 36) dX4_laysKnown_103 (by decide) ?_
          exact hgo
        · skip
          refine x_aload_n dX4_laysKnown_52 rfl ?_
          refine m_getA (kf := 35) 35 (a := 383) (by decide) rfl rfl q2150 rfl rfl dX4_laysKnown_53 ?_
          refine x_bipush dX4_laysKnown_56 (by decide) ?_
          refine x_iload_n dX4_laysKnown_58 rfl ?_
          refine x_imul dX4_laysKnown_59 ?_
          refine x_iload_n dX4_laysKnown_60 rfl ?_
          refine x_iadd dX4_laysKnown_61 ?_
          refine m_iald (n := 40) rfl rfl (by decide) (by omega) dX4_laysKnown_62 ?_
          rw [e383]
          refine x_aload_n dX4_laysKnown_63 rfl ?_
          refine m_getA (kf := 35) 35 (a := 383) (by decide) rfl rfl q2150 rfl rfl dX4_laysKnown_64 ?_
          refine x_bipush dX4_laysKnown_67 (by decide) ?_
          refine x_iload_n dX4_laysKnown_69 rfl ?_
          refine x_imul dX4_laysKnown_70 ?_
          refine x_iload_n dX4_laysKnown_71 rfl ?_
          refine x_iadd dX4_laysKnown_72 ?_
          refine m_iald (n := 40) rfl rfl (by decide) (by omega) dX4_laysKnown_73 ?_
          rw [e383]
          refine x_icmp_ne (t := 100) dX4_laysKnown_74 (by decide) (by omega) (fun c_74 => ?_) (fun c_74 => ?_)
          · skip
            have hgo := hskip (by omega) (fun z => c_74 z.2)
            refine x_iinc dX4_laysKnown_100 rfl (by decide) ?_
            refine x_goto (t := 36) dX4_laysKnown_103 (by decide) ?_
            exact hgo
          · skip
            have hyes : gsd I k f g := ⟨c_49, c_74⟩
            refine x_aload_n dX4_laysKnown_77 rfl ?_
            refine m_getA (kf := 37) 37 (a := 385) (by decide) rfl rfl q2152 rfl rfl dX4_laysKnown_78 ?_
            refine x_bipush dX4_laysKnown_81 (by decide) ?_
            refine x_iload_n dX4_laysKnown_83 rfl ?_
            refine x_imul dX4_laysKnown_84 ?_
            refine x_iload_n dX4_laysKnown_85 rfl ?_
            refine x_iadd dX4_laysKnown_86 ?_
            refine x_aload_n dX4_laysKnown_87 rfl ?_
            refine m_getA (kf := 15) 15 (a := 369) (by decide) rfl rfl q2130 rfl rfl dX4_laysKnown_88 ?_
            refine x_iconst dX4_laysKnown_91 ?_
            refine x_iload_n dX4_laysKnown_92 rfl ?_
            refine x_iadd dX4_laysKnown_93 ?_
            refine m_iald (n := 460) rfl rfl (by decide) (by omega) dX4_laysKnown_94 ?_
            rw [e369]
            refine x_iload_n dX4_laysKnown_95 rfl ?_
            refine m_cs2 (c_partOf (by omega) (by omega)) fX4_partOf q2502 (by decide) (Nat.le_of_ble_eq_true rfl) dX4_laysKnown_96 ?_
            refine m_iast (n := 40) rfl rfl (by decide) (by omega) dX4_laysKnown_99 ?_
            refine x_iinc dX4_laysKnown_100 rfl (by decide) ?_
            refine x_goto (t := 36) dX4_laysKnown_103 (by decide) ?_
            have hgo := ih3 (g + -1) (by omega) (by omega)
            rw [show g + -1 + 1 = g by omega, hstep (by omega), if_pos hyes] at hgo
            rw [show rr_u2 (rr_u2 J 385 (20 * k + f) (lsV (gsd I k f) (fun g => partOf (I 369 (4 + g)) k) (g + 1) (I 360 4))) 385 (20 * k + f) (partOf (I 369 (4 + g)) k) = rr_u2 J 385 (20 * k + f) (partOf (I 369 (4 + g)) k) from by apply rr_u2_eq; intro x j; simp only [rr_u2]; grind]
            exact hgo
