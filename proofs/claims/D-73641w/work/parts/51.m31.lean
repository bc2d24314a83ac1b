set_option maxRecDepth 100000
/-! THE MODEL's methods, 31: ways, all of them -/
/-- the word w can be the next name's, behind those of pre -/
def cbP (kn gr : Int → Int) (L : List (List Int × Int)) (nms : Nat → List Int) (pre : List Nat) (w : Nat) : Prop := fitW kn (wdL L w) (nms pre.length) ∧ ∀ m, m ≤ pre.length → ¬ (m < pre.length ∧ pre.getD m 0 = w) ∧ agW gr (wdL L w) (nms pre.length) (wdL L ((pre ++ [w]).getD m 0 : Nat)) (nms m)
/-- the choice pre stands in its array; each of its words is as long as its name -/
def GvE (J : Nat → Int → Int) (L : List (List Int × Int)) (pre : List Nat) : Prop := ∀ m, m < pre.length → J 386 m = (pre.getD m 0 : Nat) ∧ pre.getD m 0 < L.length ∧ (wdL L (pre.getD m 0 : Nat)).length = (nmL J m).length
theorem c_canBe {J : Nat → Int → Int} {L : List (List Int × Int)} {pre : List Nat} {w : Nat} (h : WyOK J L) (hn : (pre.length : Int) < J 360 12) (hg : GvE J L pre) (hw : J 386 pre.length = w) (hwl : w < L.length) : mC yX4_canBe cX4_canBe 3 (some FieldType.boolean) 2 [vR (some 360), vI (pre.length : Int)] J (some (vI (bi (cbP (J 385) (J 383) L (fun m => nmL J m) pre w)))) J := by
  have h12 := h.2.2.2.1.1
  obtain ⟨hwg, hwd⟩ := wdL_at hwl
  have hl240 := h.2.1.2.1
  have hF := c_fitsName (n := pre.length) h.1 h.2.1 h.2.2.1 h.2.2.2.1 hwg hn
  rw [← hwd] at hF
  refine mC.of (by decide) rfl (Nat.le_of_ble_eq_true rfl) (fun G nx => ?_)
  refine x_ls (ls2 := [some (vR (some 360)), some (vI (pre.length : Int)), none]) rfl ?_
  refine x_aload_n dX4_canBe_0 rfl ?_
  refine x_aload_n dX4_canBe_1 rfl ?_
  refine m_getA (kf := 38) 38 (a := 386) (by decide) rfl rfl q2153 rfl rfl dX4_canBe_2 ?_
  refine x_iload_n dX4_canBe_5 rfl ?_
  refine m_iald (n := 4) rfl rfl (by decide) (by omega) dX4_canBe_6 ?_
  rw [hw]
  refine x_iload_n dX4_canBe_7 rfl ?_
  refine m_cv2 (hF) fX4_fitsName q2650 (by decide) (Nat.le_of_ble_eq_true rfl) dX4_canBe_8 ?_
  refine x_if_ne_b (t := 16) dX4_canBe_11 (by decide) (fun c_11 => ?_) (fun c_11 => ?_)
  · skip
    refine x_iconst dX4_canBe_16 ?_
    refine x_istore_n dX4_canBe_17 (by decide) ?_
    have hlw : (wdL L (w : Int)).length = (nmL J pre.length).length := c_11.1
    refine x_loc (ls2 := [some (vR (some 360)), some (vI (pre.length : Int)), some (vI ((0 : Nat) : Int))]) (by repeat first | exact trivial | refine ⟨Or.inr rfl, ?_⟩ | refine ⟨Or.inl rfl, ?_⟩) ?_
    refine rr_ind (W := fun m : Nat => mm G yX4_canBe cX4_canBe 3 (some FieldType.boolean) 2 nx _ _ 18 [some (vR (some 360)), some (vI (pre.length : Int)), some (vI (m : Int))] [] J) (fun m => pre.length + 1 - m) (fun m => m ≤ pre.length + 1 ∧ ∀ j, j < m → ¬ (j < pre.length ∧ pre.getD j 0 = w) ∧ agW (J 383) (wdL L w) (nmL J pre.length) (wdL L ((pre ++ [w]).getD j 0 : Nat)) (nmL J j)) ?_ 0 ⟨by omega, fun j hj => by omega⟩
    rintro m ⟨hm, hall⟩ ih
    have hmp : m < pre.length → (pre ++ [w]).getD m 0 = pre.getD m 0 := fun z => by simp [List.getD_eq_getElem?_getD, List.getElem?_append_left z]
    have hme : m = pre.length → (pre ++ [w]).getD m 0 = w := fun z => by rw [z]; simp
    have hJm : m ≤ pre.length → J 386 m = ((pre ++ [w]).getD m 0 : Nat) ∧ (pre ++ [w]).getD m 0 < L.length ∧ (wdL L ((pre ++ [w]).getD m 0 : Nat)).length = (nmL J m).length := fun z => by
      by_cases e : m = pre.length
      · rw [hme e, e]; exact ⟨hw, hwl, hlw⟩
      · rw [hmp (by omega)]; exact hg m (by omega)
    refine x_iload_n dX4_canBe_18 rfl ?_
    refine x_iload_n dX4_canBe_19 rfl ?_
    refine x_icmp_gt (t := 60) dX4_canBe_20 (by decide) (by omega) (fun c_20 => ?_) (fun c_20 => ?_)
    · skip
      refine x_iconst dX4_canBe_60 ?_
      refine x_zret rfl dX4_canBe_61 (by first | exact Or.inl rfl | exact Or.inr rfl | exact bi_01 _ | omega) (Nat.le_refl _) (Nat.le_refl _) ?_
      exact ⟨rT ⟨c_11, fun j hj => hall j (by omega)⟩, rfl, rfl⟩
    · skip
      have hJm := hJm (by omega)
      obtain ⟨hvg, hvd⟩ := wdL_at hJm.2.1
      have hbadA : ¬ agW (J 383) (wdL L w) (nmL J pre.length) (wdL L ((pre ++ [w]).getD m 0 : Nat)) (nmL J m) → ¬ cbP (J 385) (J 383) L (fun m => nmL J m) pre w := fun z y => z (y.2 m (by omega)).2
      have hAg := c_agree (n := pre.length) (m := m) h hn (by omega) hw hJm.1 hwg hvg (by rw [← hwd]; exact hlw) (by rw [← hvd]; exact hJm.2.2)
      rw [← hwd, ← hvd] at hAg
      have hgo : ¬ (m < pre.length ∧ pre.getD m 0 = w) → agW (J 383) (wdL L w) (nmL J pre.length) (wdL L ((pre ++ [w]).getD m 0 : Nat)) (nmL J m) → mm G yX4_canBe cX4_canBe 3 (some FieldType.boolean) 2 nx _ _ 18 [some (vR (some 360)), some (vI (pre.length : Int)), some (vI ((m + 1 : Nat) : Int))] [] J := fun z1 z2 => ih (m + 1) ⟨by omega, fun j hj => by
        by_cases e : j = m
        · rw [e]; exact ⟨z1, z2⟩
        · exact hall j (by omega)⟩ (by omega)
      refine x_iload_n dX4_canBe_23 rfl ?_
      refine x_iload_n dX4_canBe_24 rfl ?_
      refine x_icmp_ge (t := 43) dX4_canBe_25 (by decide) (by omega) (fun c_25 => ?_) (fun c_25 => ?_)
      · skip
        have hne : ¬ (m < pre.length ∧ pre.getD m 0 = w) := fun z => by omega
        refine x_aload_n dX4_canBe_43 rfl ?_
        refine x_iload_n dX4_canBe_44 rfl ?_
        refine x_iload_n dX4_canBe_45 rfl ?_
        refine m_cv2 (hAg) fX4_agree q2678 (by decide) (Nat.le_of_ble_eq_true rfl) dX4_canBe_46 ?_
        refine x_if_ne_b (t := 54) dX4_canBe_49 (by decide) (fun c_49 => ?_) (fun c_49 => ?_)
        · skip
          refine x_iinc dX4_canBe_54 rfl (by decide) ?_
          refine x_goto (t := 18) dX4_canBe_57 (by decide) ?_
          exact x_loc (by rw [show ((m + 1 : Nat) : Int) = (m : Int) + 1 by omega]; exact (by repeat first | exact trivial | refine ⟨Or.inr rfl, ?_⟩ | refine ⟨Or.inl rfl, ?_⟩)) (hgo hne c_49)
        · skip
          refine x_iconst dX4_canBe_52 ?_
          refine x_zret rfl dX4_canBe_53 (Or.inl rfl) (Nat.le_refl _) (Nat.le_refl _) ?_
          exact ⟨rF (hbadA c_49), rfl, rfl⟩
      · skip
        refine x_aload_n dX4_canBe_28 rfl ?_
        refine m_getA (kf := 38) 38 (a := 386) (by decide) rfl rfl q2153 rfl rfl dX4_canBe_29 ?_
        refine x_iload_n dX4_canBe_32 rfl ?_
        refine m_iald (n := 4) rfl rfl (by decide) (by omega) dX4_canBe_33 ?_
        rw [hJm.1]
        refine x_aload_n dX4_canBe_34 rfl ?_
        refine m_getA (kf := 38) 38 (a := 386) (by decide) rfl rfl q2153 rfl rfl dX4_canBe_35 ?_
        refine x_iload_n dX4_canBe_38 rfl ?_
        refine m_iald (n := 4) rfl rfl (by decide) (by omega) dX4_canBe_39 ?_
        rw [hw]
        refine x_icmp_eq (t := 52) dX4_canBe_40 (by decide) (by omega) (fun c_40 => ?_) (fun c_40 => ?_)
        · skip
          have hyes : m < pre.length ∧ pre.getD m 0 = w := ⟨by omega, by rw [hmp (by omega)] at c_40; omega⟩
          refine x_iconst dX4_canBe_52 ?_
          refine x_zret rfl dX4_canBe_53 (Or.inl rfl) (Nat.le_refl _) (Nat.le_refl _) ?_
          exact ⟨rF (fun z => (z.2 m (by omega)).1 hyes), rfl, rfl⟩
        · skip
          have hne : ¬ (m < pre.length ∧ pre.getD m 0 = w) := fun z => by rw [hmp (by omega)] at c_40; omega
          refine x_aload_n dX4_canBe_43 rfl ?_
          refine x_iload_n dX4_canBe_44 rfl ?_
          refine x_iload_n dX4_canBe_45 rfl ?_
          refine m_cv2 (hAg) fX4_agree q2678 (by decide) (Nat.le_of_ble_eq_true rfl) dX4_canBe_46 ?_
          refine x_if_ne_b (t := 54) dX4_canBe_49 (by decide) (fun c_49 => ?_) (fun c_49 => ?_)
          · skip
            refine x_iinc dX4_canBe_54 rfl (by decide) ?_
            refine x_goto (t := 18) dX4_canBe_57 (by decide) ?_
            exact x_loc (by rw [show ((m + 1 : Nat) : Int) = (m : Int) + 1 by omega]; exact (by repeat first | exact trivial | refine ⟨Or.inr rfl, ?_⟩ | refine ⟨Or.inl rfl, ?_⟩)) (hgo hne c_49)
          · skip
            refine x_iconst dX4_canBe_52 ?_
            refine x_zret rfl dX4_canBe_53 (Or.inl rfl) (Nat.le_refl _) (Nat.le_refl _) ?_
            exact ⟨rF (hbadA c_49), rfl, rfl⟩
  · skip
    refine x_iconst dX4_canBe_14 ?_
    refine x_zret rfl dX4_canBe_15 (by first | exact Or.inl rfl | exact Or.inr rfl | exact bi_01 _ | omega) (Nat.le_refl _) (Nat.le_refl _) ?_
    exact ⟨rF (fun z => c_11 z.1), rfl, rfl⟩
theorem c_takesWay {J : Nat → Int → Int} (h12 : 0 ≤ J 360 12 ∧ J 360 12 ≤ 4) (h40 : 0 ≤ J 360 40 ∧ J 360 40 < 1000) : mC yX4_takesWay cX4_takesWay 2 none 0 [vR (some 360)] J none (rr_u2 (if J 360 40 = 0 then fl J 387 0 (J 360 12) (J 386) else J) 360 40 (J 360 40 + 1)) := by
  refine mC.of (by decide) rfl (Nat.le_of_ble_eq_true rfl) (fun G nx => ?_)
  refine x_ls (ls2 := [some (vR (some 360)), none]) rfl ?_
  by_cases e : J 360 40 = 0
  · rw [if_pos e]
    refine x_iconst dX4_takesWay_0 ?_
    refine x_istore_n dX4_takesWay_1 (by decide) ?_
    refine x_h (h2 := mh (fl J 387 0 0 (J 386))) (by rw [fl_0 _ 387 (by omega)]) ?_
    refine rr_ind (W := fun k => mm G yX4_takesWay cX4_takesWay 2 none 0 nx _ _ 2 [some (vR (some 360)), some (vI k)] [] (fl J 387 0 k (J 386))) (fun k => (J 360 12 - k).toNat) (fun k => 0 ≤ k ∧ k ≤ J 360 12) ?_ 0 (by omega)
    intro k hk ih
    have f12 : fl J 387 0 k (J 386) 360 12 = J 360 12 := fl_o _ _ _ _ _ (by omega)
    have f40 : fl J 387 0 k (J 386) 360 40 = J 360 40 := fl_o _ _ _ _ _ (by omega)
    have f386 : fl J 387 0 k (J 386) 386 = J 386 := by funext j; exact fl_o _ _ _ _ _ (by omega)
    refine x_iload_n dX4_takesWay_2 rfl ?_
    refine x_aload_n dX4_takesWay_3 rfl ?_
    refine m_getI (kf := 12) 12 (by decide) rfl rfl q2127 rfl dX4_takesWay_4 ?_
    rw [f12]
    refine x_icmp_ge (t := 35) dX4_takesWay_7 (by decide) (by omega) (fun c_7 => ?_) (fun c_7 => ?_)
    · skip
      refine x_aload_n dX4_takesWay_35 rfl ?_
      refine x_dup dX4_takesWay_36 rfl ?_
      refine m_getI (kf := 40) 40 (by decide) rfl rfl q2155 rfl dX4_takesWay_37 ?_
      rw [f40]
      refine x_iconst dX4_takesWay_40 ?_
      refine x_iadd dX4_takesWay_41 ?_
      refine m_putI (kf := 40) 40 (by decide) rfl rfl q2155 rfl rfl (rr_nar_i _) dX4_takesWay_42 ?_
      refine x_vret rfl dX4_takesWay_45 (Nat.le_refl _) (Nat.le_refl _) ?_
      exact ⟨rfl, by rw [show k = J 360 12 by omega], rfl⟩
    · skip
      refine x_aload_n dX4_takesWay_10 rfl ?_
      refine m_getI (kf := 40) 40 (by decide) rfl rfl q2155 rfl dX4_takesWay_11 ?_
      rw [f40]
      refine x_if_ne (t := 35) dX4_takesWay_14 (by decide) (by omega) (fun c_14 => absurd (e) c_14) (fun c_14 => ?_)
      refine x_aload_n dX4_takesWay_17 rfl ?_
      refine m_getA (kf := 39) 39 (a := 387) (by decide) rfl rfl q2154 rfl rfl dX4_takesWay_18 ?_
      refine x_iload_n dX4_takesWay_21 rfl ?_
      refine x_aload_n dX4_takesWay_22 rfl ?_
      refine m_getA (kf := 38) 38 (a := 386) (by decide) rfl rfl q2153 rfl rfl dX4_takesWay_23 ?_
      refine x_iload_n dX4_takesWay_26 rfl ?_
      refine m_iald (n := 4) rfl rfl (by decide) (by omega) dX4_takesWay_27 ?_
      rw [f386]
      refine m_iast (n := 4) rfl rfl (by decide) (by omega) dX4_takesWay_28 ?_
      rw [show rr_u2 (fl J 387 0 k (J 386)) 387 k (J 386 k) = fl J 387 0 (k + 1) (J 386) from by apply rr_u2_eq; intro x j; simp only [rr_u2, fl]; grind (splits := 20)]
      refine x_iinc dX4_takesWay_29 rfl (by decide) ?_
      refine x_goto (t := 2) dX4_takesWay_32 (by decide) ?_
      exact ih (k + 1) (by omega) (by omega)
  · rw [if_neg e]
    refine x_iconst dX4_takesWay_0 ?_
    refine x_istore_n dX4_takesWay_1 (by decide) ?_
    refine x_iload_n dX4_takesWay_2 rfl ?_
    refine x_aload_n dX4_takesWay_3 rfl ?_
    refine m_getI (kf := 12) 12 (by decide) rfl rfl q2127 rfl dX4_takesWay_4 ?_
    refine x_icmp_ge (t := 35) dX4_takesWay_7 (by decide) (by omega) (fun c_7 => ?_) (fun c_7 => ?_)
    · skip
      refine x_aload_n dX4_takesWay_35 rfl ?_
      refine x_dup dX4_takesWay_36 rfl ?_
      refine m_getI (kf := 40) 40 (by decide) rfl rfl q2155 rfl dX4_takesWay_37 ?_
      refine x_iconst dX4_takesWay_40 ?_
      refine x_iadd dX4_takesWay_41 ?_
      refine m_putI (kf := 40) 40 (by decide) rfl rfl q2155 rfl rfl (rr_nar_i _) dX4_takesWay_42 ?_
      refine x_vret rfl dX4_takesWay_45 (Nat.le_refl _) (Nat.le_refl _) ?_
      exact ⟨rfl, rfl, rfl⟩
    · skip
      refine x_aload_n dX4_takesWay_10 rfl ?_
      refine m_getI (kf := 40) 40 (by decide) rfl rfl q2155 rfl dX4_takesWay_11 ?_
      refine x_if_ne (t := 35) dX4_takesWay_14 (by decide) (by omega) (fun c_14 => ?_) (fun c_14 => absurd c_14 (e))
      refine x_aload_n dX4_takesWay_35 rfl ?_
      refine x_dup dX4_takesWay_36 rfl ?_
      refine m_getI (kf := 40) 40 (by decide) rfl rfl q2155 rfl dX4_takesWay_37 ?_
      refine x_iconst dX4_takesWay_40 ?_
      refine x_iadd dX4_takesWay_41 ?_
      refine m_putI (kf := 40) 40 (by decide) rfl rfl q2155 rfl rfl (rr_nar_i _) dX4_takesWay_42 ?_
      refine x_vret rfl dX4_takesWay_45 (Nat.le_refl _) (Nat.le_refl _) ?_
      exact ⟨rfl, rfl, rfl⟩
