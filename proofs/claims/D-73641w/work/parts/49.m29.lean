set_option maxRecDepth 100000
/-! THE MODEL's methods, 29: fits, hits, draws -/
theorem Laid.wf {J : Nat → Int → Int} (h : Laid J) (hst : StOK J) : WF J (lxI J) := ⟨h.we, h.wl.2, fun _ hq => h.wF hst hq⟩
theorem NmOK_eqx {I J : Nat → Int → Int} (h : NmOK I) (h7 : J 367 = I 367) (h8 : J 368 = I 368) (h12 : J 360 12 = I 360 12) : NmOK J := by unfold NmOK; rw [h7, h8, h12]; exact h
abbrev wdL (L : List (List Int × Int)) (w : Int) : List Int := (L.getD w.toNat ([], 0)).1
theorem wdL_at {L : List (List Int × Int)} {w : Nat} (h : w < L.length) : L[w]? = some L[w] ∧ wdL L (w : Int) = L[w].1 := by
  refine ⟨List.getElem?_eq_getElem h, ?_⟩
  unfold wdL
  rw [show ((w : Nat) : Int).toNat = w by omega, List.getD_eq_getElem?_getD, List.getElem?_eq_getElem h]
  rfl
def ftP (J : Nat → Int → Int) (n w : Int) : Prop := fitW (J 385) (wdL (lxI J) w) (nmL J n)
def FtPost (I : Nat → Int → Int) (n k z : Int) (J : Nat → Int → Int) : Prop := Keep I J ∧ ((¬ ((0 ≤ n ∧ n < I 360 12) ∧ -1 ≤ k) ∧ z = -1) ∨ (((0 ≤ n ∧ n < I 360 12) ∧ -1 ≤ k) ∧ Laid J ∧ ((k = -1 ∧ z = cnt (ftP J n) (lxI J).length) ∨ (0 ≤ k ∧ ((∃ w : Nat, w < (lxI J).length ∧ ftP J n w ∧ cnt (ftP J n) w = k ∧ z = w) ∨ (z = -1 ∧ cnt (ftP J n) (lxI J).length ≤ k))))))
theorem c_fits {I : Nat → Int → Int} {n k : Int} (hn : i32 n) (hk : i32 k) (h : MI I) (hN : NmOK I) : mQ yX4_fits cX4_fits 5 (some FieldType.int) 6 [vR (some 360), vI n, vI k] I (FtPost I n k) := by
  have h4 := h.1.1.2.1
  have h12 := hN.1
  refine mQ.of (by decide) rfl (Nat.le_of_ble_eq_true rfl) (fun G nx => ?_)
  refine x_ls (ls2 := [some (vR (some 360)), some (vI n), some (vI k), none, none]) rfl ?_
  refine x_iload_n dX4_fits_0 rfl ?_
  refine x_iconst dX4_fits_1 ?_
  refine x_aload_n dX4_fits_2 rfl ?_
  refine m_getI (kf := 12) 12 (by decide) rfl rfl q2127 rfl dX4_fits_3 ?_
  refine x_iconst dX4_fits_6 ?_
  refine x_isub dX4_fits_7 ?_
  refine m_cs3 (c_in (by omega) (by omega) (by omega)) fX4_in q2299 (by decide) (Nat.le_of_ble_eq_true rfl) dX4_fits_8 ?_
  refine x_if_eq_b (t := 19) dX4_fits_11 (by decide) (fun c_11 => ?_) (fun c_11 => ?_)
  · skip
    refine x_iconst dX4_fits_19 ?_
    refine x_iret rfl dX4_fits_20 (Nat.le_refl _) (Nat.le_refl _) ?_
    exact ⟨_, rfl, rfl, _, rfl, Keep.rf h.2, Or.inl ⟨by omega, rfl⟩⟩
  · skip
    refine x_iload_n dX4_fits_14 rfl ?_
    refine x_iconst dX4_fits_15 ?_
    refine x_icmp_ge (t := 21) dX4_fits_16 (by decide) (by omega) (fun c_16 => ?_) (fun c_16 => ?_)
    · skip
      refine x_aload_n dX4_fits_21 rfl ?_
      refine m_ew0 (c_lays h.1 h.2) fX4_lays q2398 (by decide) (Nat.le_of_ble_eq_true rfl) dX4_fits_22 (fun I2 hI2 => ?_)
      refine x_iconst dX4_fits_25 ?_
      refine x_istore_n dX4_fits_26 (by decide) ?_
      refine x_iconst dX4_fits_27 ?_
      refine x_istore dX4_fits_28 (by decide) ?_
      have hK := hI2.keep
      have hLd := hI2.2.1
      have e4 := hI2.1.2 4 (by decide)
      have e12 := hI2.1.2 12 (by decide)
      have hst : StOK I2 := StOK_eqx h.1.1 hI2.1 (by decide) (by decide) (by decide) (by decide) (by decide)
      have hgs := GsOK_eqx h.1.2.2.2.2.2.2 (hI2.1.1 369 (by decide) (by decide))
      have hNJ : NmOK I2 := NmOK_eqx hN (hI2.1.1 367 (by decide) (by decide)) (hI2.1.1 368 (by decide) (by decide)) e12
      clear hI2
      generalize I2 = J at *
      have hW := hLd.wf hst
      have hki := hLd.ki hgs (by omega)
      have h25 := hLd.we.1
      have hwl := hLd.wl.2
      obtain ⟨N, rfl⟩ : ∃ N : Nat, n = N := ⟨n.toNat, by omega⟩
      refine x_loc (ls2 := [some (vR (some 360)), some (vI (N : Int)), some (vI k), some (vI (cnt (ftP J N) ((0 : Nat) : Int))), some (vI ((0 : Nat) : Int))]) (by rw [show ((0 : Nat) : Int) = 0 from rfl, cnt_0]; exact (by repeat first | exact trivial | refine ⟨Or.inr rfl, ?_⟩ | refine ⟨Or.inl rfl, ?_⟩)) ?_
      refine rr_ind (W := fun w : Nat => mq G yX4_fits cX4_fits 5 (some FieldType.int) 6 nx _ 30 [some (vR (some 360)), some (vI (N : Int)), some (vI k), some (vI (cnt (ftP J N) (w : Int))), some (vI (w : Int))] [] J) (fun w => (lxI J).length - w) (fun w => w ≤ (lxI J).length ∧ (0 ≤ k → cnt (ftP J N) (w : Int) ≤ k)) ?_ 0 ⟨by omega, fun z => by rw [show ((0 : Nat) : Int) = 0 from rfl, cnt_0]; exact z⟩
      rintro w ⟨hw, hle⟩ ih
      have hup := cnt_up (ftP J N) (k := (w : Int)) (by omega)
      have hci := cnt_in (ftP J N) (n := (w : Int)) (by omega)
      refine x_iload dX4_fits_30 rfl ?_
      refine x_aload_n dX4_fits_32 rfl ?_
      refine m_getI (kf := 25) 25 (by decide) rfl rfl q2140 rfl dX4_fits_33 ?_
      rw [h25]
      refine x_icmp_ge (t := 66) dX4_fits_36 (by decide) (by omega) (fun c_36 => ?_) (fun c_36 => ?_)
      · skip
        have hw2 : w = (lxI J).length := by omega
        subst hw2
        refine x_iload_n dX4_fits_66 rfl ?_
        refine x_iconst dX4_fits_67 ?_
        refine x_icmp_ne (t := 75) dX4_fits_68 (by decide) (by omega) (fun c_68 => ?_) (fun c_68 => ?_)
        · skip
          refine x_iconst dX4_fits_75 ?_
          refine x_iret rfl dX4_fits_76 (Nat.le_refl _) (Nat.le_refl _) ?_
          exact ⟨_, rfl, rfl, _, rfl, hK, Or.inr ⟨by omega, hLd, Or.inr ⟨by omega, Or.inr ⟨rfl, hle (by omega)⟩⟩⟩⟩
        · skip
          refine x_iload_n dX4_fits_71 rfl ?_
          refine x_goto (t := 76) dX4_fits_72 (by decide) ?_
          refine x_iret rfl dX4_fits_76 (Nat.le_refl _) (Nat.le_refl _) ?_
          exact ⟨_, rfl, rfl, _, rfl, hK, Or.inr ⟨by omega, hLd, Or.inl ⟨c_68, rfl⟩⟩⟩
      · skip
        obtain ⟨hwg, hwd⟩ := wdL_at (L := lxI J) (w := w) (by omega)
        refine x_aload_n dX4_fits_39 rfl ?_
        refine x_iload dX4_fits_40 rfl ?_
        refine x_iload_n dX4_fits_42 rfl ?_
        refine m_cv2 (c_fitsName (by omega) hW hki hNJ hwg (by omega)) fX4_fitsName q2650 (by decide) (Nat.le_of_ble_eq_true rfl) dX4_fits_43 ?_
        refine x_if_eq_b (t := 60) dX4_fits_46 (by decide) (fun c_46 => ?_) (fun c_46 => ?_)
        · skip
          have hno : ¬ ftP J N w := fun z => c_46 (by unfold ftP at z; rw [hwd] at z; exact z)
          rw [bi_f hno, Int.add_zero] at hup
          have hgo := ih (w + 1) ⟨by omega, fun z => by rw [show ((w + 1 : Nat) : Int) = (w : Int) + 1 by omega, hup]; exact hle z⟩ (by omega)
          refine x_iinc dX4_fits_60 rfl (by decide) ?_
          refine x_goto (t := 30) dX4_fits_63 (by decide) ?_
          exact x_loc (by rw [show ((w + 1 : Nat) : Int) = (w : Int) + 1 by omega, hup]; exact (by repeat first | exact trivial | refine ⟨Or.inr rfl, ?_⟩ | refine ⟨Or.inl rfl, ?_⟩)) hgo
        · skip
          have hyes : ftP J N w := by unfold ftP; rw [hwd]; exact c_46
          rw [bi_t hyes] at hup
          refine x_iload_n dX4_fits_49 rfl ?_
          refine x_iload_n dX4_fits_50 rfl ?_
          refine x_icmp_ne (t := 57) dX4_fits_51 (by decide) (by omega) (fun c_51 => ?_) (fun c_51 => ?_)
          · skip
            have hgo := ih (w + 1) ⟨by omega, fun z => by rw [show ((w + 1 : Nat) : Int) = (w : Int) + 1 by omega, hup]; have := hle z; omega⟩ (by omega)
            refine x_iinc dX4_fits_57 rfl (by decide) ?_
            refine x_iinc dX4_fits_60 rfl (by decide) ?_
            refine x_goto (t := 30) dX4_fits_63 (by decide) ?_
            exact x_loc (by rw [show ((w + 1 : Nat) : Int) = (w : Int) + 1 by omega, hup]; exact (by repeat first | exact trivial | refine ⟨Or.inr rfl, ?_⟩ | refine ⟨Or.inl rfl, ?_⟩)) hgo
          · skip
            refine x_iload dX4_fits_54 rfl ?_
            refine x_iret rfl dX4_fits_56 (Nat.le_refl _) (Nat.le_refl _) ?_
            exact ⟨_, rfl, rfl, _, rfl, hK, Or.inr ⟨by omega, hLd, Or.inr ⟨by omega, Or.inl ⟨w, by omega, hyes, c_51, rfl⟩⟩⟩⟩
    · skip
      refine x_iconst dX4_fits_19 ?_
      refine x_iret rfl dX4_fits_20 (Nat.le_refl _) (Nat.le_refl _) ?_
      exact ⟨_, rfl, rfl, _, rfl, Keep.rf h.2, Or.inl ⟨by omega, rfl⟩⟩
/-- all is known of the word's signs -/
def whlW (kn : Int → Int) (p : List Int) : Prop := ∀ k : Nat, k < p.length → kn (p.getD k 0) ≠ -1 ∧ kn (20 + p.getD k 0) ≠ -1
def nmsL (I : Nat → Int → Int) : List (List Int) := (List.range (I 360 12).toNat).map (fun n : Nat => nmL I n)
noncomputable def hitV (L : List (List Int × Int)) (nms : List (List Int)) (kn : Int → Int) : Int := itr (fun w n => itr (fun i n => n + bi (whlW kn (wdL L w) ∧ fitW kn (wdL L w) (nms.getD i.toNat []))) 0 nms.length n) 0 L.length 0
theorem c_hitsNow {I : Nat → Int → Int} {L : List (List Int × Int)} (h4 : 0 ≤ I 360 4 ∧ I 360 4 ≤ 20) (hW : WF I L) (hki : KnIn I) (hN : NmOK I) : mC yX4_hitsNow cX4_hitsNow 5 (some FieldType.int) 2 [vR (some 360)] I (some (vI (hitV L (nmsL I) (I 385)))) I := by
  have h12 := hN.1
  have h25 := hW.1.1
  have hl240 := hW.2.1
  have hnl : (nmsL I).length = (I 360 12).toNat := by simp [nmsL]
  have hng : ∀ i : Nat, i < (I 360 12).toNat → (nmsL I).getD i [] = nmL I i := fun i hi => by simp [nmsL, hi]
  refine mC.of (by decide) rfl (Nat.le_of_ble_eq_true rfl) (fun G nx => ?_)
  refine x_ls (ls2 := [some (vR (some 360)), none, none, none, none]) rfl ?_
  unfold hitV
  refine x_iconst dX4_hitsNow_0 ?_
  refine x_istore_n dX4_hitsNow_1 (by decide) ?_
  refine x_iconst dX4_hitsNow_2 ?_
  refine x_istore_n dX4_hitsNow_3 (by decide) ?_
  refine rr_for (g := fun w n => itr (fun i n => n + bi (whlW (I 385) (wdL L w) ∧ fitW (I 385) (wdL L w) ((nmsL I).getD i.toNat []))) 0 (nmsL I).length n) (hi := L.length) (P := fun i _ => 0 ≤ i ∧ i ≤ L.length) (W := fun i a => mm G yX4_hitsNow cX4_hitsNow 5 (some FieldType.int) 2 nx _ _ 4 [some (vR (some 360)), some (vI a), some (vI i), none, none] [] I) ?_ ?_ 0 0 rfl (by omega)
  · intro i hi hp
    refine x_iload_n dX4_hitsNow_4 rfl ?_
    refine x_aload_n dX4_hitsNow_5 rfl ?_
    refine m_getI (kf := 25) 25 (by decide) rfl rfl q2140 rfl dX4_hitsNow_6 ?_
    rw [h25]
    refine x_icmp_ge (t := 107) dX4_hitsNow_9 (by decide) (by omega) (fun c_9 => ?_) (fun c_9 => absurd (by omega) c_9)
    refine x_iload_n dX4_hitsNow_107 rfl ?_
    refine x_iret rfl dX4_hitsNow_108 (Nat.le_refl _) (Nat.le_refl _) ?_
    exact ⟨rfl, rfl, rfl⟩
  · intro w0 a hw0 hp ih
    obtain ⟨w, rfl⟩ : ∃ w : Nat, w0 = w := ⟨w0.toNat, by omega⟩
    obtain ⟨hwg, hwd⟩ := wdL_at (L := L) (w := w) (by omega)
    obtain ⟨q1, -, q3⟩ := hW.1.at hwg
    have hWq := (hW.1.2 w _ hwg).2
    have hq1 := hWq.1
    rw [hwd] at ih
    have hqF : ∀ k, k < L[w].1.length → 0 ≤ L[w].1.getD k 0 ∧ L[w].1.getD k 0 < I 360 4 := fun k hk => by
      have a := hWq.at hk
      refine ⟨a.1, ?_⟩
      rw [List.getD_eq_getElem?_getD, List.getElem?_eq_getElem hk]
      exact hW.2.2 _ (List.mem_of_getElem? hwg) _ (List.getElem_mem _)
    have hfit := fun n hn => c_fitsName (n := n) h4 hW hki hN hwg hn
    generalize L[w].1 = p at *
    refine x_iload_n dX4_hitsNow_4 rfl ?_
    refine x_aload_n dX4_hitsNow_5 rfl ?_
    refine m_getI (kf := 25) 25 (by decide) rfl rfl q2140 rfl dX4_hitsNow_6 ?_
    rw [h25]
    refine x_icmp_ge (t := 107) dX4_hitsNow_9 (by decide) (by omega) (fun c_9 => absurd c_9 (by omega)) (fun c_9 => ?_)
    refine x_iconst dX4_hitsNow_12 ?_
    refine x_istore_n dX4_hitsNow_13 (by decide) ?_
    refine x_iconst dX4_hitsNow_14 ?_
    refine x_istore dX4_hitsNow_15 (by decide) ?_
    refine x_loc (ls2 := [some (vR (some 360)), some (vI a), some (vI (w : Int)), some (vI (bi (∀ k : Nat, k < 0 → I 385 (p.getD k 0) ≠ -1 ∧ I 385 (20 + p.getD k 0) ≠ -1))), some (vI ((0 : Nat) : Int))]) (by rw [bi_t (fun k hk => by omega)]; exact (by repeat first | exact trivial | refine ⟨Or.inr rfl, ?_⟩ | refine ⟨Or.inl rfl, ?_⟩)) ?_
    refine rr_ind (W := fun k : Nat => mm G yX4_hitsNow cX4_hitsNow 5 (some FieldType.int) 2 nx _ _ 17 [some (vR (some 360)), some (vI a), some (vI (w : Int)), some (vI (bi (∀ j : Nat, j < k → I 385 (p.getD j 0) ≠ -1 ∧ I 385 (20 + p.getD j 0) ≠ -1))), some (vI (k : Int))] [] I) (fun k => p.length - k) (fun k => k ≤ p.length) ?_ 0 (by omega)
    intro k hk ih2
    have hb01 := bi_01 (∀ j : Nat, j < k → I 385 (p.getD j 0) ≠ -1 ∧ I 385 (20 + p.getD j 0) ≠ -1)
    refine x_iload dX4_hitsNow_17 rfl ?_
    refine x_aload_n dX4_hitsNow_19 rfl ?_
    refine m_getA (kf := 27) 27 (a := 376) (by decide) rfl rfl q2142 rfl rfl dX4_hitsNow_20 ?_
    refine x_iload_n dX4_hitsNow_23 rfl ?_
    refine m_iald (n := 241) rfl rfl (by decide) (by omega) dX4_hitsNow_24 ?_
    rw [q1]
    refine x_icmp_ge (t := 58) dX4_hitsNow_25 (by decide) (by omega) (fun c_25 => ?_) (fun c_25 => ?_)
    · skip
      refine x_iconst dX4_hitsNow_58 ?_
      refine x_istore dX4_hitsNow_59 (by decide) ?_
      have hk2 : k = p.length := by omega
      subst hk2
      have hbw : bi (∀ j : Nat, j < p.length → I 385 (p.getD j 0) ≠ -1 ∧ I 385 (20 + p.getD j 0) ≠ -1) = bi (whlW (I 385) p) := rfl
      rw [hbw]
      rw [hbw] at hb01
      clear ih2 hbw
      refine rr_for (g := fun i n => n + bi (whlW (I 385) p ∧ fitW (I 385) p ((nmsL I).getD i.toNat []))) (hi := (nmsL I).length) (P := fun i _ => 0 ≤ i ∧ i ≤ (nmsL I).length) (W := fun i x => mm G yX4_hitsNow cX4_hitsNow 5 (some FieldType.int) 2 nx _ _ 61 [some (vR (some 360)), some (vI x), some (vI (w : Int)), some (vI (bi (whlW (I 385) p))), some (vI i)] [] I) ?_ ?_ 0 a rfl (by omega)
      · intro i hi hp2
        refine x_iload dX4_hitsNow_61 rfl ?_
        refine x_aload_n dX4_hitsNow_63 rfl ?_
        refine m_getI (kf := 12) 12 (by decide) rfl rfl q2127 rfl dX4_hitsNow_64 ?_
        refine x_icmp_ge (t := 101) dX4_hitsNow_67 (by decide) (by omega) (fun c_67 => ?_) (fun c_67 => absurd (by omega) c_67)
        refine x_iinc dX4_hitsNow_101 rfl (by decide) ?_
        refine x_goto (t := 4) dX4_hitsNow_104 (by decide) ?_
        exact x_loc (by repeat first | exact trivial | refine ⟨Or.inr rfl, ?_⟩ | refine ⟨Or.inl rfl, ?_⟩) (ih (by omega))
      · intro i0 x hi0 hp2 ih3
        obtain ⟨i, rfl⟩ : ∃ i : Nat, i0 = i := ⟨i0.toNat, by omega⟩
        have hgi := hng i (by omega)
        rw [show ((i : Nat) : Int).toNat = i by omega, hgi] at ih3
        refine x_iload dX4_hitsNow_61 rfl ?_
        refine x_aload_n dX4_hitsNow_63 rfl ?_
        refine m_getI (kf := 12) 12 (by decide) rfl rfl q2127 rfl dX4_hitsNow_64 ?_
        refine x_icmp_ge (t := 101) dX4_hitsNow_67 (by decide) (by omega) (fun c_67 => absurd c_67 (by omega)) (fun c_67 => ?_)
        refine x_iload_n dX4_hitsNow_70 rfl ?_
        refine x_iload_n dX4_hitsNow_71 rfl ?_
        refine x_if_eq (t := 89) dX4_hitsNow_72 (by decide) (by omega) (fun c_72 => ?_) (fun c_72 => ?_)
        · skip
          have hno : ¬ (whlW (I 385) p ∧ fitW (I 385) p (nmL I i)) := fun z => by rw [bi_t z.1] at c_72; omega
          refine x_iconst dX4_hitsNow_89 ?_
          refine x_top (bi (whlW (I 385) p ∧ fitW (I 385) p (nmL I i))) (by first | exact (bi_f hno).symm | exact (bi_t hyes).symm) ?_
          refine m_cs1 (c_truth) fX4_truth q2327 (by decide) (Nat.le_of_ble_eq_true rfl) dX4_hitsNow_90 ?_
          refine x_iadd dX4_hitsNow_93 ?_
          refine x_istore_n dX4_hitsNow_94 (by decide) ?_
          refine x_iinc dX4_hitsNow_95 rfl (by decide) ?_
          refine x_goto (t := 61) dX4_hitsNow_98 (by decide) ?_
          exact ih3 (by omega)
        · skip
          have hwh : whlW (I 385) p := Classical.byContradiction fun z => c_72 (bi_f z)
          refine x_aload_n dX4_hitsNow_75 rfl ?_
          refine x_iload_n dX4_hitsNow_76 rfl ?_
          refine x_iload dX4_hitsNow_77 rfl ?_
          refine m_cv2 (hfit i (by omega)) fX4_fitsName q2650 (by decide) (Nat.le_of_ble_eq_true rfl) dX4_hitsNow_79 ?_
          refine x_if_eq_b (t := 89) dX4_hitsNow_82 (by decide) (fun c_82 => ?_) (fun c_82 => ?_)
          · skip
            have hno : ¬ (whlW (I 385) p ∧ fitW (I 385) p (nmL I i)) := fun z => c_82 z.2
            refine x_iconst dX4_hitsNow_89 ?_
            refine x_top (bi (whlW (I 385) p ∧ fitW (I 385) p (nmL I i))) (by first | exact (bi_f hno).symm | exact (bi_t hyes).symm) ?_
            refine m_cs1 (c_truth) fX4_truth q2327 (by decide) (Nat.le_of_ble_eq_true rfl) dX4_hitsNow_90 ?_
            refine x_iadd dX4_hitsNow_93 ?_
            refine x_istore_n dX4_hitsNow_94 (by decide) ?_
            refine x_iinc dX4_hitsNow_95 rfl (by decide) ?_
            refine x_goto (t := 61) dX4_hitsNow_98 (by decide) ?_
            exact ih3 (by omega)
          · skip
            have hyes : whlW (I 385) p ∧ fitW (I 385) p (nmL I i) := ⟨hwh, c_82⟩
            refine x_iconst dX4_hitsNow_85 ?_
            refine x_goto (t := 90) dX4_hitsNow_86 (by decide) ?_
            refine x_top (bi (whlW (I 385) p ∧ fitW (I 385) p (nmL I i))) (by first | exact (bi_f hno).symm | exact (bi_t hyes).symm) ?_
            refine m_cs1 (c_truth) fX4_truth q2327 (by decide) (Nat.le_of_ble_eq_true rfl) dX4_hitsNow_90 ?_
            refine x_iadd dX4_hitsNow_93 ?_
            refine x_istore_n dX4_hitsNow_94 (by decide) ?_
            refine x_iinc dX4_hitsNow_95 rfl (by decide) ?_
            refine x_goto (t := 61) dX4_hitsNow_98 (by decide) ?_
            exact ih3 (by omega)
    · skip
      have hgo := ih2 (k + 1) (by omega) (by omega)
      have hqk := hqF k (by omega)
      refine x_iload_n dX4_hitsNow_28 rfl ?_
      refine x_if_eq (t := 50) dX4_hitsNow_29 (by decide) (by omega) (fun c_29 => ?_) (fun c_29 => ?_)
      · skip
        have hno : ¬ ∀ j : Nat, j < k + 1 → I 385 (p.getD j 0) ≠ -1 ∧ I 385 (20 + p.getD j 0) ≠ -1 := fun z => by rw [bi_t (fun j hj => z j (by omega))] at c_29; omega
        refine x_iconst dX4_hitsNow_50 ?_
        refine x_top (bi (∀ j : Nat, j < k + 1 → I 385 (p.getD j 0) ≠ -1 ∧ I 385 (20 + p.getD j 0) ≠ -1)) (by first | exact (bi_f hno).symm | exact (bi_t hyes).symm) ?_
        refine x_istore_n dX4_hitsNow_51 (by decide) ?_
        refine x_iinc dX4_hitsNow_52 rfl (by decide) ?_
        refine x_goto (t := 17) dX4_hitsNow_55 (by decide) ?_
        exact x_loc (by rw [show ((k + 1 : Nat) : Int) = (k : Int) + 1 by omega]; exact (by repeat first | exact trivial | refine ⟨Or.inr rfl, ?_⟩ | refine ⟨Or.inl rfl, ?_⟩)) hgo
      · skip
        have hpre : ∀ j : Nat, j < k → I 385 (p.getD j 0) ≠ -1 ∧ I 385 (20 + p.getD j 0) ≠ -1 := Classical.byContradiction fun z => c_29 (bi_f z)
        refine x_aload_n dX4_hitsNow_32 rfl ?_
        refine x_aload_n dX4_hitsNow_33 rfl ?_
        refine x_iload_n dX4_hitsNow_34 rfl ?_
        refine x_iload dX4_hitsNow_35 rfl ?_
        refine m_cv2 (c_wordSign (by omega) (by omega)) fX4_wordSign q2654 (by decide) (Nat.le_of_ble_eq_true rfl) dX4_hitsNow_37 ?_
        rw [q3 k (by omega)]
        refine m_cv1 (c_isWhole (by omega) hki (by omega)) fX4_isWhole q2525 (by decide) (Nat.le_of_ble_eq_true rfl) dX4_hitsNow_40 ?_
        refine x_if_eq_b (t := 50) dX4_hitsNow_43 (by decide) (fun c_43 => ?_) (fun c_43 => ?_)
        · skip
          have hno : ¬ ∀ j : Nat, j < k + 1 → I 385 (p.getD j 0) ≠ -1 ∧ I 385 (20 + p.getD j 0) ≠ -1 := fun z => c_43 (z k (by omega))
          refine x_iconst dX4_hitsNow_50 ?_
          refine x_top (bi (∀ j : Nat, j < k + 1 → I 385 (p.getD j 0) ≠ -1 ∧ I 385 (20 + p.getD j 0) ≠ -1)) (by first | exact (bi_f hno).symm | exact (bi_t hyes).symm) ?_
          refine x_istore_n dX4_hitsNow_51 (by decide) ?_
          refine x_iinc dX4_hitsNow_52 rfl (by decide) ?_
          refine x_goto (t := 17) dX4_hitsNow_55 (by decide) ?_
          exact x_loc (by rw [show ((k + 1 : Nat) : Int) = (k : Int) + 1 by omega]; exact (by repeat first | exact trivial | refine ⟨Or.inr rfl, ?_⟩ | refine ⟨Or.inl rfl, ?_⟩)) hgo
        · skip
          have hyes : ∀ j : Nat, j < k + 1 → I 385 (p.getD j 0) ≠ -1 ∧ I 385 (20 + p.getD j 0) ≠ -1 := fun j hj => by
            by_cases e : j = k
            · rw [e]; exact c_43
            · exact hpre j (by omega)
          refine x_iconst dX4_hitsNow_46 ?_
          refine x_goto (t := 51) dX4_hitsNow_47 (by decide) ?_
          refine x_top (bi (∀ j : Nat, j < k + 1 → I 385 (p.getD j 0) ≠ -1 ∧ I 385 (20 + p.getD j 0) ≠ -1)) (by first | exact (bi_f hno).symm | exact (bi_t hyes).symm) ?_
          refine x_istore_n dX4_hitsNow_51 (by decide) ?_
          refine x_iinc dX4_hitsNow_52 rfl (by decide) ?_
          refine x_goto (t := 17) dX4_hitsNow_55 (by decide) ?_
          exact x_loc (by rw [show ((k + 1 : Nat) : Int) = (k : Int) + 1 by omega]; exact (by repeat first | exact trivial | refine ⟨Or.inr rfl, ?_⟩ | refine ⟨Or.inl rfl, ?_⟩)) hgo
noncomputable def v_hits (J : Nat → Int → Int) : Int := hitV (lxI J) (nmsL J) (J 385)
theorem c_hits {I : Nat → Int → Int} (h : MI I) (hN : NmOK I) : mQ yX4_hits cX4_hits 1 (some FieldType.int) 6 [vR (some 360)] I (QP I v_hits) := by
  have h4 := h.1.1.2.1
  refine mQ.of (by decide) rfl (Nat.le_of_ble_eq_true rfl) (fun G nx => ?_)
  refine x_ls (ls2 := [some (vR (some 360))]) rfl ?_
  refine x_aload_n dX4_hits_0 rfl ?_
  refine m_ew0 (c_lays h.1 h.2) fX4_lays q2398 (by decide) (Nat.le_of_ble_eq_true rfl) dX4_hits_1 (fun I2 hI2 => ?_)
  have hLd := hI2.2.1
  have e4 := hI2.1.2 4 (by decide)
  have hst : StOK I2 := StOK_eqx h.1.1 hI2.1 (by decide) (by decide) (by decide) (by decide) (by decide)
  have hgs := GsOK_eqx h.1.2.2.2.2.2.2 (hI2.1.1 369 (by decide) (by decide))
  have hNJ : NmOK I2 := NmOK_eqx hN (hI2.1.1 367 (by decide) (by decide)) (hI2.1.1 368 (by decide) (by decide)) (hI2.1.2 12 (by decide))
  have hW := hLd.wf hst
  have hki := hLd.ki hgs (by omega)
  refine x_aload_n dX4_hits_4 rfl ?_
  refine m_cv0 (c_hitsNow (by omega) hW hki hNJ) fX4_hitsNow q2662 (by decide) (Nat.le_of_ble_eq_true rfl) dX4_hits_5 ?_
  refine x_iret rfl dX4_hits_8 (Nat.le_refl _) (Nat.le_refl _) ?_
  exact ⟨_, rfl, rfl, _, rfl, hI2.keep, rfl⟩
theorem c_draws {I : Nat → Int → Int} {v : Int} (hv : i32 v) : mC yX4_draws cX4_draws 3 (some FieldType.int) 0 [vR (some 360), vI v] I (some (vI (if v < 0 then -1 else I 360 41))) (if v < 0 then I else rr_u2 I 360 41 v) := by
  refine mC.of (by decide) rfl (Nat.le_of_ble_eq_true rfl) (fun G nx => ?_)
  refine x_ls (ls2 := [some (vR (some 360)), some (vI v), none]) rfl ?_
  refine x_iload_n dX4_draws_0 rfl ?_
  refine x_if_ge (t := 6) dX4_draws_1 (by decide) (by omega) (fun c_1 => ?_) (fun c_1 => ?_)
  · skip
    rw [if_neg (by omega), if_neg (by omega)]
    refine x_aload_n dX4_draws_6 rfl ?_
    refine m_getI (kf := 41) 41 (by decide) rfl rfl q2156 rfl dX4_draws_7 ?_
    refine x_istore_n dX4_draws_10 (by decide) ?_
    refine x_aload_n dX4_draws_11 rfl ?_
    refine x_iload_n dX4_draws_12 rfl ?_
    refine m_putI (kf := 41) 41 (by decide) rfl rfl q2156 rfl rfl (rr_nar_i _) dX4_draws_13 ?_
    refine x_iload_n dX4_draws_16 rfl ?_
    refine x_iret rfl dX4_draws_17 (Nat.le_refl _) (Nat.le_refl _) ?_
    exact ⟨rfl, rfl, rfl⟩
  · skip
    rw [if_pos (by omega), if_pos (by omega)]
    refine x_iconst dX4_draws_4 ?_
    refine x_iret rfl dX4_draws_5 (Nat.le_refl _) (Nat.le_refl _) ?_
    exact ⟨rfl, rfl, rfl⟩
def nxX (x : Int) : Int := (x * 1103515245 + 12345) % 2147483648
theorem c_drawn {I : Nat → Int → Int} {n : Int} (hx : 0 ≤ I 360 41 ∧ I 360 41 < 2147483648) (hn : 1 ≤ n ∧ n ≤ 20) : mC yX4_drawn cX4_drawn 2 (some FieldType.int) 0 [vR (some 360), vI n] I (some (vI (nxX (I 360 41) / 65536 % n))) (rr_u2 I 360 41 (nxX (I 360 41))) := by
  refine mC.of (by decide) rfl (Nat.le_of_ble_eq_true rfl) (fun G nx => ?_)
  refine x_ls (ls2 := [some (vR (some 360)), some (vI n)]) rfl ?_
  refine x_aload_n dX4_drawn_0 rfl ?_
  refine x_aload_n dX4_drawn_1 rfl ?_
  refine m_getI (kf := 41) 41 (by decide) rfl rfl q2156 rfl dX4_drawn_2 ?_
  refine x_i2l dX4_drawn_5 (by omega) ?_
  refine x_ldc2 (z := 1103515245) q2706 dX4_drawn_6 (by decide) ?_
  refine x_lmul dX4_drawn_9 ?_
  refine x_ldc2 (z := 12345) q2707 dX4_drawn_10 (by decide) ?_
  refine x_ladd dX4_drawn_13 ?_
  refine x_ldc2 (z := 2147483648) q2708 dX4_drawn_14 (by decide) ?_
  refine x_lrem dX4_drawn_17 (by omega) (by omega) ?_
  refine x_l2i dX4_drawn_18 ?_
  refine m_putI (kf := 41) 41 (by decide) rfl rfl q2156 rfl rfl (rr_nar_i _) dX4_drawn_19 ?_
  refine x_aload_n dX4_drawn_22 rfl ?_
  refine m_getI (kf := 41) 41 (by decide) rfl rfl q2156 rfl dX4_drawn_23 ?_
  rw [rr_u2_same]
  refine x_ldcw (z := 65536) q2709 dX4_drawn_26 (by decide) ?_
  refine x_idiv dX4_drawn_29 (by omega) (by omega) ?_
  refine x_iload_n dX4_drawn_30 rfl ?_
  refine x_irem dX4_drawn_31 (by omega) (by omega) ?_
  refine x_iret rfl dX4_drawn_32 (Nat.le_refl _) (Nat.le_refl _) ?_
  exact ⟨rfl, rfl, rfl⟩
