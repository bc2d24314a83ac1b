set_option maxRecDepth 100000
/-! THE MODEL's methods, 41: stem() -/
noncomputable def stV (L : List (List Int × Int)) (k w : Int) : Int :=
  if k = -1 then ((stL L L.length).length : Int) else if (0 ≤ k ∧ k < (stL L L.length).length) ∧ 0 ≤ w ∧ w ≤ 8 then
    (if w = 0 then bcx (endV L (stm (wdL L ((stL L L.length).getD k.toNat 0 : Nat)))) else if w = 1 then endV L (stm (wdL L ((stL L L.length).getD k.toNat 0 : Nat))) else if w = 2 then ((stm (wdL L ((stL L L.length).getD k.toNat 0 : Nat))).length : Int) else if w - 3 < (stm (wdL L ((stL L L.length).getD k.toNat 0 : Nat))).length then (stm (wdL L ((stL L L.length).getD k.toNat 0 : Nat))).getD (w - 3).toNat 0 else -1) else -1
theorem lxI_eqx {J K : Nat → Int → Int} {xs : List Nat} {fs : List Int} (h : eqx J K xs fs) (h4 : 364 ∉ xs) (h5 : 365 ∉ xs) (h6 : 366 ∉ xs) (h9 : 369 ∉ xs) (h1 : 371 ∉ xs) (h8 : (8 : Int) ∉ fs) : lxI K = lxI J := by
  have hR : m_rows K = m_rows J := m_rows_eq (h.1 364 (by decide) h4) (h.1 365 (by decide) h5) (h.1 366 (by decide) h6) (h.1 369 (by decide) h9) (h.1 371 (by decide) h1) (h.2 8 h8)
  unfold lxI wsI
  rw [hR, h.1 369 (by decide) h9]
theorem c_stem {I : Nat → Int → Int} {k w : Int} (hk : i32 k) (hw : i32 w) (h : MI I) : mQ yX4_stem cX4_stem 5 (some FieldType.int) 6 [vR (some 360), vI k, vI w] I (QP I (fun K => stV (lxI K) k w)) := by
  refine mQ.of (by decide) rfl (Nat.le_of_ble_eq_true rfl) (fun G nx => ?_)
  refine x_ls (ls2 := [some (vR (some 360)), some (vI k), some (vI w), none, none]) rfl ?_
  refine x_aload_n dX4_stem_0 rfl ?_
  refine m_ew0 (c_lays h.1 h.2) fX4_lays q2398 (by decide) (Nat.le_of_ble_eq_true rfl) dX4_stem_1 (fun J hJ => ?_)
  have hLd := hJ.2.1
  have hwl := hLd.wl.2
  refine x_aload_n dX4_stem_4 rfl ?_
  refine m_ew0 (c_laysStems hLd.we hwl) fX4_laysStems q2601 (by decide) (Nat.le_of_ble_eq_true rfl) dX4_stem_5 (fun K hK => ?_)
  obtain ⟨eK, hS⟩ := hK
  have hlx : lxI K = lxI J := lxI_eqx eK (by decide) (by decide) (by decide) (by decide) (by decide) (by decide)
  have hLdK : Laid K := Laid_eqx hLd eK (by decide) (by decide)
  have hKp : Keep I K := ⟨(hJ.1.mono (by decide) (by decide)).tr (eK.mono (by decide) (by decide)), Or.inr ⟨by rw [eK.2 45 (by decide)]; exact hJ.2.2, hLdK⟩⟩
  rw [← hlx] at hS hwl
  have hWK := hLdK.we
  have hSi := stL_in (lxI K) (lxI K).length
  have hS1 := hS.1
  refine x_iload_n dX4_stem_8 rfl ?_
  refine x_iconst dX4_stem_9 ?_
  refine x_icmp_ne (t := 18) dX4_stem_10 (by decide) (by omega) (fun c_10 => ?_) (fun c_10 => ?_)
  · skip
    refine x_iload_n dX4_stem_18 rfl ?_
    refine x_iconst dX4_stem_19 ?_
    refine x_aload_n dX4_stem_20 rfl ?_
    refine m_getI (kf := 32) 32 (by decide) rfl rfl q2147 rfl dX4_stem_21 ?_
    refine x_iconst dX4_stem_24 ?_
    refine x_isub dX4_stem_25 ?_
    refine m_cs3 (c_in (by omega) (by omega) (by omega)) fX4_in q2299 (by decide) (Nat.le_of_ble_eq_true rfl) dX4_stem_26 ?_
    refine x_if_eq_b (t := 42) dX4_stem_29 (by decide) (fun c_29 => ?_) (fun c_29 => ?_)
    · skip
      refine x_iconst dX4_stem_42 ?_
      refine x_iret rfl dX4_stem_43 (Nat.le_refl _) (Nat.le_refl _) ?_
      exact ⟨_, rfl, rfl, _, rfl, hKp, by dsimp only; unfold stV; rw [if_neg c_10, if_neg (by omega)]⟩
    · skip
      refine x_iload_n dX4_stem_32 rfl ?_
      refine x_iconst dX4_stem_33 ?_
      refine x_bipush dX4_stem_34 (by decide) ?_
      refine m_cs3 (c_in (by omega) (by omega) (by omega)) fX4_in q2299 (by decide) (Nat.le_of_ble_eq_true rfl) dX4_stem_36 ?_
      refine x_if_ne_b (t := 44) dX4_stem_39 (by decide) (fun c_39 => ?_) (fun c_39 => ?_)
      · skip
        have hkS : k.toNat < (stL (lxI K) (lxI K).length).length := by omega
        have hv0 : stV (lxI K) k w = (if w = 0 then bcx (endV (lxI K) (stm (wdL (lxI K) ((stL (lxI K) (lxI K).length).getD k.toNat 0 : Nat)))) else if w = 1 then endV (lxI K) (stm (wdL (lxI K) ((stL (lxI K) (lxI K).length).getD k.toNat 0 : Nat))) else if w = 2 then ((stm (wdL (lxI K) ((stL (lxI K) (lxI K).length).getD k.toNat 0 : Nat))).length : Int) else if w - 3 < (stm (wdL (lxI K) ((stL (lxI K) (lxI K).length).getD k.toNat 0 : Nat))).length then (stm (wdL (lxI K) ((stL (lxI K) (lxI K).length).getD k.toNat 0 : Nat))).getD (w - 3).toNat 0 else -1) := by
          unfold stV
          rw [if_neg c_10, if_pos (by omega)]
        have hSk := hS.2 k.toNat hkS
        rw [show ((k.toNat : Nat) : Int) = k by omega] at hSk
        have hvl : (stL (lxI K) (lxI K).length).getD k.toNat 0 < (lxI K).length := by
          have : (stL (lxI K) (lxI K).length).getD k.toNat 0 ∈ stL (lxI K) (lxI K).length := by
            rw [List.getD_eq_getElem?_getD, List.getElem?_eq_getElem hkS]
            exact List.getElem_mem _
          exact hSi.2 _ this
        generalize (stL (lxI K) (lxI K).length).getD k.toNat 0 = v at *
        obtain ⟨hvg, hvd⟩ := wdL_at hvl
        obtain ⟨q1, -, q3⟩ := hWK.at hvg
        have hpo := (hWK.2 v _ hvg).2
        rw [← hvd] at q1 q3 hpo
        have hp1 := hpo.1
        have hsl := stm_len (wdL (lxI K) (v : Int))
        refine x_aload_n dX4_stem_44 rfl ?_
        refine m_getA (kf := 33) 33 (a := 381) (by decide) rfl rfl q2148 rfl rfl dX4_stem_45 ?_
        refine x_iload_n dX4_stem_48 rfl ?_
        refine m_iald (n := 240) rfl rfl (by decide) (by omega) dX4_stem_49 ?_
        rw [hSk]
        refine x_istore_n dX4_stem_50 (by decide) ?_
        refine x_aload_n dX4_stem_51 rfl ?_
        refine m_getA (kf := 27) 27 (a := 376) (by decide) rfl rfl q2142 rfl rfl dX4_stem_52 ?_
        refine x_iload_n dX4_stem_55 rfl ?_
        refine m_iald (n := 241) rfl rfl (by decide) (by omega) dX4_stem_56 ?_
        rw [q1]
        refine x_iconst dX4_stem_57 ?_
        refine x_isub dX4_stem_58 ?_
        refine x_istore dX4_stem_59 (by decide) ?_
        refine x_aload_n dX4_stem_61 rfl ?_
        refine x_iload_n dX4_stem_62 rfl ?_
        refine x_iload dX4_stem_63 rfl ?_
        refine m_cw2 (c_laysPiece (by omega) (by omega)) fX4_laysPiece q2605 (by decide) (Nat.le_of_ble_eq_true rfl) dX4_stem_65 ?_
        generalize hJ1 : fl K 375 0 _ _ = J1
        have e1 : eqx K J1 [375] [] := by
          rw [← hJ1]
          exact ⟨fun x a b => by funext j; simp at b; rw [fl_o _ _ _ _ _ (by omega)], fun j hj => by rw [fl_o _ _ _ _ _ (by omega)]⟩
        have hlx1 : lxI J1 = lxI K := lxI_eqx e1 (by decide) (by decide) (by decide) (by decide) (by decide) (by decide)
        have hLd1 : Laid J1 := Laid_eqx hLdK e1 (by decide) (by decide)
        have hKp1 : Keep I J1 := ⟨hKp.1.tr (e1.mono (by decide) (by decide)), Or.inr ⟨by rw [e1.2 45 (by decide), eK.2 45 (by decide)]; exact hJ.2.2, hLd1⟩⟩
        have hW1 := WE_eqx hWK e1 (by decide) (by decide) (by decide) (by decide)
        have hP1 : (stm (wdL (lxI K) (v : Int))).length ≤ 6 ∧ ∀ i : Nat, i < (stm (wdL (lxI K) (v : Int))).length → J1 375 i = (stm (wdL (lxI K) (v : Int))).getD i 0 ∧ 0 ≤ (stm (wdL (lxI K) (v : Int))).getD i 0 ∧ (stm (wdL (lxI K) (v : Int))).getD i 0 < 20 := ⟨by omega, fun i hi => by
          rw [stm_get (by omega)]
          refine ⟨?_, hpo.at (by omega)⟩
          rw [← hJ1]
          simp only [fl]
          rw [if_pos ⟨trivial, by omega, by omega⟩]
          exact q3 i (by omega)⟩
        have hE := c_endingsOf hW1 hwl hP1
        have hret : ∀ z, z = stV (lxI K) k w → ∃ z', some (vI z) = some (vI z') ∧ nx = nx ∧ ∃ I', mh J1 = mh I' ∧ QP I (fun K => stV (lxI K) k w) z' I' := fun z hz => ⟨z, rfl, rfl, J1, rfl, hKp1, by dsimp only; rw [hlx1]; exact hz⟩
        generalize stm (wdL (lxI K) (v : Int)) = P at *
        refine x_iload_n dX4_stem_68 rfl ?_
        refine x_iconst dX4_stem_69 ?_
        refine x_icmp_ge (t := 96) dX4_stem_70 (by decide) (by omega) (fun c_70 => ?_) (fun c_70 => ?_)
        · skip
          refine x_iload_n dX4_stem_96 rfl ?_
          refine x_iconst dX4_stem_97 ?_
          refine x_icmp_ne (t := 106) dX4_stem_98 (by decide) (by omega) (fun c_98 => ?_) (fun c_98 => ?_)
          · skip
            refine x_iload_n dX4_stem_106 rfl ?_
            refine x_iconst dX4_stem_107 ?_
            refine x_isub dX4_stem_108 ?_
            refine x_iload dX4_stem_109 rfl ?_
            refine x_icmp_ge (t := 125) dX4_stem_111 (by decide) (by omega) (fun c_111 => ?_) (fun c_111 => ?_)
            · skip
              refine x_iconst dX4_stem_125 ?_
              refine x_iret rfl dX4_stem_126 (Nat.le_refl _) (Nat.le_refl _) ?_
              exact hret _ (by rw [hv0, if_neg (by omega), if_neg (by omega), if_neg c_98, if_neg (by omega)])
            · skip
              have hPg := (hP1.2 (w - 3).toNat (by omega)).1
              rw [show (((w - 3).toNat : Nat) : Int) = w - 3 by omega] at hPg
              refine x_aload_n dX4_stem_114 rfl ?_
              refine m_getA (kf := 24) 24 (a := 375) (by decide) rfl rfl q2139 rfl rfl dX4_stem_115 ?_
              refine x_iload_n dX4_stem_118 rfl ?_
              refine x_iconst dX4_stem_119 ?_
              refine x_isub dX4_stem_120 ?_
              refine m_iald (n := 7) rfl rfl (by decide) (by omega) dX4_stem_121 ?_
              refine x_goto (t := 126) dX4_stem_122 (by decide) ?_
              refine x_iret rfl dX4_stem_126 (Nat.le_refl _) (Nat.le_refl _) ?_
              exact hret _ (by rw [hv0, if_neg (by omega), if_neg (by omega), if_neg c_98, if_pos (by omega)]; exact hPg)
          · skip
            refine x_iload dX4_stem_101 rfl ?_
            refine x_goto (t := 126) dX4_stem_103 (by decide) ?_
            refine x_iret rfl dX4_stem_126 (Nat.le_refl _) (Nat.le_refl _) ?_
            exact hret _ (by rw [hv0, if_neg (by omega), if_neg (by omega), if_pos c_98]; omega)
        · skip
          refine x_iload_n dX4_stem_73 rfl ?_
          refine x_if_ne (t := 89) dX4_stem_74 (by decide) (by omega) (fun c_74 => ?_) (fun c_74 => ?_)
          · skip
            refine x_aload_n dX4_stem_89 rfl ?_
            refine x_iload dX4_stem_90 rfl ?_
            refine x_top (P.length : Int) (by omega) ?_
            refine m_cv1 (hE) fX4_endingsOf q2609 (by decide) (Nat.le_of_ble_eq_true rfl) dX4_stem_92 ?_
            refine x_iret rfl dX4_stem_95 (Nat.le_refl _) (Nat.le_refl _) ?_
            exact hret _ (by rw [hv0, if_neg c_74, if_pos (by omega)])
          · skip
            refine x_aload_n dX4_stem_77 rfl ?_
            refine x_iload dX4_stem_78 rfl ?_
            refine x_top (P.length : Int) (by omega) ?_
            refine m_cv1 (hE) fX4_endingsOf q2609 (by decide) (Nat.le_of_ble_eq_true rfl) dX4_stem_80 ?_
            refine m_cs1 (xc_bitCount.m) fJ4_bitCount q2442 (by decide) (Nat.le_of_ble_eq_true rfl) dX4_stem_83 ?_
            refine x_goto (t := 95) dX4_stem_86 (by decide) ?_
            refine x_iret rfl dX4_stem_95 (Nat.le_refl _) (Nat.le_refl _) ?_
            exact hret _ (by rw [hv0, if_pos c_74])
      · skip
        refine x_iconst dX4_stem_42 ?_
        refine x_iret rfl dX4_stem_43 (Nat.le_refl _) (Nat.le_refl _) ?_
        exact ⟨_, rfl, rfl, _, rfl, hKp, by dsimp only; unfold stV; rw [if_neg c_10, if_neg (by omega)]⟩
  · skip
    refine x_aload_n dX4_stem_13 rfl ?_
    refine m_getI (kf := 32) 32 (by decide) rfl rfl q2147 rfl dX4_stem_14 ?_
    refine x_iret rfl dX4_stem_17 (Nat.le_refl _) (Nat.le_refl _) ?_
    exact ⟨_, rfl, rfl, _, rfl, hKp, by dsimp only; unfold stV; rw [if_pos c_10]; exact hS1⟩
