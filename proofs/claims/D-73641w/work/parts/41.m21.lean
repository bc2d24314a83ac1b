set_option maxRecDepth 100000
/-! THE MODEL's methods, 21: forms() -/
theorem rdN_in {I : Nat → Int → Int} (h1 : 0 ≤ I 360 1 ∧ I 360 1 ≤ 300) : ∀ (k : Nat) (p : Int) (l : List Int), 0 ≤ p ∧ p ≤ 300 → 0 ≤ (rdN (mSg I) k p l).2.1 ∧ (rdN (mSg I) k p l).2.1 ≤ 300 := by
  intro k
  induction k with
  | zero => intro p l hp; exact hp
  | succ k ih =>
    intro p l hp
    simp only [rdN]
    split
    · have := num_in h1 hp.1
      exact ih _ _ (by omega)
    · exact hp
def pForms (T : Int → Int) : Nat → List (List Int) → Int → Int × List (List Int)
  | 0, fs, _ => (-1, fs)
  | k + 1, fs, p => if T (blk T p) = -1 then (-1, fs) else if (pForm T fs (blk T p)).1 = -1 then pForms T k (fs ++ [(pForm T fs (blk T p)).2.2]) (pForm T fs (blk T p)).2.1 else ((pForm T fs (blk T p)).1, fs)
def rForms (T : Int → Int) : Int × List (List Int) := pForms T 21 [] 0
def FmPost (I : Nat → Int → Int) (z : Int) (J : Nat → Int → Int) : Prop := J 360 1 = 0 ∧ (((rForms (mSg I)).1 ≠ -1 ∧ z = -2 - (rForms (mSg I)).1 ∧ eqx I J [363] [1, 2, 3, 5]) ∨
  ((rForms (mSg I)).1 = -1 ∧ z = (rForms (mSg I)).2.length ∧ (rForms (mSg I)).2.length ≤ 20 ∧ J 360 4 = (rForms (mSg I)).2.length ∧ encF (J 362) (rForms (mSg I)).2 ∧ J 360 8 = 0 ∧ J 369 = tl0 (I 369) ∧ J 360 17 = 0 ∧ J 360 45 = 0 ∧ eqx I J [362, 363, 369] [1, 2, 3, 4, 5, 8, 17, 45]))
theorem eqx_mW (I : Nat → Int → Int) (p f k : Int) (g : Int → Int) : eqx I (mW I p f k g) [363] [2, 3, 5] := ⟨fun x h1 h2 => by
  funext j
  simp at h2
  simp [mW, mP, h1, h2], fun j hj => by
  simp at hj
  simp [mW, mP, hj]⟩
theorem eqx_u2 (I : Nat → Int → Int) (i v : Int) : eqx I (rr_u2 I 360 i v) [] [i] := ⟨fun x h1 h2 => by
  funext j
  rw [rr_u2_ne _ _ (fun q => h1 q.1)], fun j hj => by
  simp at hj
  rw [rr_u2_ne _ _ (fun q => hj q.2)]⟩
theorem c_forms_bad {I : Nat → Int → Int} {G : rr_G} {nx : Nat} {p f n : Int} {g : Int → Int} (hf : -1 < f ∧ f < 100000) (hr : (rForms (mSg I)).1 = f) : mq G yX4_forms cX4_forms 2 (some FieldType.int) 4 nx (FmPost I) 13 [some (vR (some 360)), none] [] (mW I p f n g) := by
  have hR : mC yX4_isRight cX4_isRight 1 (some FieldType.boolean) 0 [vR (some 360)] (mW I p f n g) (some (vI (bi (f = -1)))) (mW I p f n g) := mW_C (c_isRightP (by omega))
  have e3 : rr_u2 (mW I p f n g) 360 1 0 360 3 = f := by rw [rr_u2_ne _ _ (by omega)]; exact (mW_at I p f n g).2.2.1
  have hR2 := c_isRight (I := rr_u2 (mW I p f n g) 360 1 0) (by rw [e3]; omega)
  rw [e3] at hR2
  refine x_aload_n dX4_forms_13 rfl ?_
  refine m_cv0 (hR) fX4_isRight q2283 (by decide) (Nat.le_of_ble_eq_true rfl) dX4_forms_14 ?_
  refine x_if_eq_b (t := 39) dX4_forms_17 (by decide) (fun c_17 => ?_) (fun c_17 => ?_)
  · skip
    refine x_aload_n dX4_forms_39 rfl ?_
    refine x_iconst dX4_forms_40 ?_
    refine m_putI (kf := 1) 1 (by decide) rfl rfl q2116 rfl rfl (rr_nar_i _) dX4_forms_41 ?_
    refine x_aload_n dX4_forms_44 rfl ?_
    refine m_cv0 (hR2) fX4_isRight q2283 (by decide) (Nat.le_of_ble_eq_true rfl) dX4_forms_45 ?_
    refine x_if_ne_b (t := 59) dX4_forms_48 (by decide) (fun c_48 => ?_) (fun c_48 => ?_)
    · skip
      exfalso; omega
    · skip
      refine x_bipush dX4_forms_51 (by decide) ?_
      refine x_aload_n dX4_forms_53 rfl ?_
      refine m_getI (kf := 3) 3 (by decide) rfl rfl q2118 rfl dX4_forms_54 ?_
      rw [e3]
      refine x_isub dX4_forms_57 ?_
      refine x_iret rfl dX4_forms_58 (Nat.le_refl _) (Nat.le_refl _) ?_
      refine ⟨_, rfl, rfl, _, rfl, rr_u2_same _ _ _ _, Or.inl ⟨by omega, by omega, ?_⟩⟩
      exact ((eqx_mW I p f n g).mono (by decide) (by decide)).tr ((eqx_u2 _ 1 0).mono (by decide) (by decide))
  · skip
    exfalso; omega
theorem c_forms {I : Nat → Int → Int} (h1 : 0 ≤ I 360 1 ∧ I 360 1 ≤ 300) (hg : gOK (I 363)) : mQ yX4_forms cX4_forms 2 (some FieldType.int) 4 [vR (some 360)] I (FmPost I) := by
  refine mQ.of (by decide) rfl (Nat.le_of_ble_eq_true rfl) (fun G nx => ?_)
  refine x_ls (ls2 := [some (vR (some 360)), none]) rfl ?_
  refine x_aload_n dX4_forms_0 rfl ?_
  refine m_cw0 (c_starts) fX4_starts q2271 (by decide) (Nat.le_of_ble_eq_true rfl) dX4_forms_1 ?_
  refine x_aload_n dX4_forms_4 rfl ?_
  refine x_iconst dX4_forms_5 ?_
  refine m_putI (kf := 5) 5 (by decide) rfl rfl q2120 rfl rfl (rr_nar_i _) dX4_forms_6 ?_
  rw [show rr_u2 (mP I 0 (-1)) 360 5 0 = mW I 0 (-1) (([] : List (List Int)).length : Int) (I 363) from by apply rr_u2_eq; intro x j; simp only [mW, mP, rr_u2, List.length_nil]; grind]
  have hB0 : mC yX4_blanks cX4_blanks 1 none 1 [vR (some 360)] (mW I 0 (-1) (([] : List (List Int)).length : Int) (I 363)) none (mW I (blk (mSg I) 0) (-1) (([] : List (List Int)).length : Int) (I 363)) := mW_C (by
    have := c_blanks (I := mW I 0 (-1) (([] : List (List Int)).length : Int) (I 363)) (p := 0) (f := -1) (by omega) (by rw [(mW_at I 0 (-1) (([] : List (List Int)).length : Int) (I 363)).2.2.2.1]; exact h1)
    rw [mSg_mW] at this
    exact this)
  refine x_aload_n dX4_forms_9 rfl ?_
  refine m_cw0 (hB0) fX4_blanks q2275 (by decide) (Nat.le_of_ble_eq_true rfl) dX4_forms_10 ?_
  refine rr_ind (W := fun q : List (List Int) × Int × (Int → Int) => mq G yX4_forms cX4_forms 2 (some FieldType.int) 4 nx _ 13 [some (vR (some 360)), none] [] (mW I (blk (mSg I) q.2.1) (-1) (q.1.length : Int) q.2.2)) (fun q => 21 - q.1.length) (fun q => q.1.length ≤ 20 ∧ (0 ≤ q.2.1 ∧ q.2.1 ≤ 300) ∧ gOK q.2.2 ∧ encF q.2.2 q.1 ∧ rForms (mSg I) = pForms (mSg I) (21 - q.1.length) q.1 q.2.1) ?_ ([], 0, I 363) ⟨by simp, by simp, hg, fun i hi => by simp at hi, rfl⟩
  clear hg hB0
  rintro ⟨fs, p, g⟩ ⟨hn, hp, hg, he, hrf⟩ ih
  simp only at hn hp hg he hrf ih
  dsimp only
  have hstep : pForms (mSg I) (21 - fs.length) fs p = if (mSg I) (blk (mSg I) p) = -1 then (-1, fs) else if (pForm (mSg I) fs (blk (mSg I) p)).1 = -1 then pForms (mSg I) (21 - (fs.length + 1)) (fs ++ [(pForm (mSg I) fs (blk (mSg I) p)).2.2]) (pForm (mSg I) fs (blk (mSg I) p)).2.1 else ((pForm (mSg I) fs (blk (mSg I) p)).1, fs) := by
    rw [show 21 - fs.length = (21 - (fs.length + 1)) + 1 by omega]
    rfl
  have hb := blk_le h1 hp.1
  generalize hq : blk (mSg I) p = q at *
  have hw := mW_at I q (-1) fs.length g
  have hR : mC yX4_isRight cX4_isRight 1 (some FieldType.boolean) 0 [vR (some 360)] (mW I q (-1) fs.length g) (some (vI (bi ((-1 : Int) = -1)))) (mW I q (-1) fs.length g) := mW_C (c_isRightP (by omega))
  have hsb := mSg_in I q
  have hS : mC yX4_sign cX4_sign 1 (some FieldType.int) 0 [vR (some 360)] (mW I q (-1) fs.length g) (some (vI (mSg I q))) (mW I q (-1) fs.length g) := mW_C (by
    have := c_signP (I := mW I q (-1) fs.length g) (p := q) (f := -1) (by omega) (by rw [hw.2.2.2.1]; exact h1)
    rw [mSg_mW] at this
    exact this)
  refine x_aload_n dX4_forms_13 rfl ?_
  refine m_cv0 (hR) fX4_isRight q2283 (by decide) (Nat.le_of_ble_eq_true rfl) dX4_forms_14 ?_
  refine x_if_eq_b (t := 39) dX4_forms_17 (by decide) (fun c_17 => ?_) (fun c_17 => ?_)
  · skip
    exact absurd rfl c_17
  · skip
    refine x_aload_n dX4_forms_20 rfl ?_
    refine m_cv0 (hS) fX4_sign q2279 (by decide) (Nat.le_of_ble_eq_true rfl) dX4_forms_21 ?_
    refine x_iconst dX4_forms_24 ?_
    refine x_icmp_eq (t := 39) dX4_forms_25 (by decide) (by omega) (fun c_25 => ?_) (fun c_25 => ?_)
    · skip
      rw [if_pos c_25] at hstep
      rw [hstep] at hrf
      have e3 : rr_u2 (mW I q (-1) fs.length g) 360 1 0 360 3 = -1 := by rw [rr_u2_ne _ _ (by omega)]; exact hw.2.2.1
      have hR2 := c_isRight (I := rr_u2 (mW I q (-1) fs.length g) 360 1 0) (by rw [e3]; omega)
      rw [e3] at hR2
      have e5 : rr_u2 (mW I q (-1) fs.length g) 360 1 0 360 5 = fs.length := by rw [rr_u2_ne _ _ (by omega)]; exact hw.1
      have hK0 : eqx I (rr_u2 (mW I q (-1) fs.length g) 360 1 0) [363] [1, 2, 3, 5] := ((eqx_mW I q (-1) fs.length g).mono (by decide) (by decide)).tr ((eqx_u2 _ 1 0).mono (by decide) (by decide))
      have e363 : rr_u2 (mW I q (-1) fs.length g) 360 1 0 363 = g := by funext j; rw [rr_u2_ne _ _ (by omega)]; exact hw.2.2.2.2.1 j
      have e1 : rr_u2 (mW I q (-1) fs.length g) 360 1 0 360 1 = 0 := rr_u2_same _ _ _ _
      refine x_aload_n dX4_forms_39 rfl ?_
      refine x_iconst dX4_forms_40 ?_
      refine m_putI (kf := 1) 1 (by decide) rfl rfl q2116 rfl rfl (rr_nar_i _) dX4_forms_41 ?_
      generalize hK : rr_u2 (mW I q (-1) fs.length g) 360 1 0 = K at *
      refine x_aload_n dX4_forms_44 rfl ?_
      refine m_cv0 (hR2) fX4_isRight q2283 (by decide) (Nat.le_of_ble_eq_true rfl) dX4_forms_45 ?_
      refine x_if_ne_b (t := 59) dX4_forms_48 (by decide) (fun c_48 => ?_) (fun c_48 => ?_)
      · skip
        refine x_aload_n dX4_forms_59 rfl ?_
        refine x_aload_n dX4_forms_60 rfl ?_
        refine m_getI (kf := 5) 5 (by decide) rfl rfl q2120 rfl dX4_forms_61 ?_
        rw [e5]
        refine m_putI (kf := 4) 4 (by decide) rfl rfl q2119 rfl rfl (rr_nar_i _) dX4_forms_64 ?_
        refine x_iconst dX4_forms_67 ?_
        refine x_istore_n dX4_forms_68 (by decide) ?_
        generalize hV : rr_u2 K 360 4 (fs.length : Int) = V
        have hVe : eqx K V [] [4] := by rw [← hV]; exact eqx_u2 _ _ _
        have hV4 : V 360 4 = fs.length := by rw [← hV]; exact rr_u2_same _ _ _ _
        have hV363 : V 363 = g := by rw [hVe.1 363 (by decide) (by decide)]; exact e363
        refine x_h (h2 := mh (fl V 362 0 0 g)) (by rw [fl_0 _ 362 (by omega)]) ?_
        refine rr_ind (W := fun k => mq G yX4_forms cX4_forms 2 (some FieldType.int) 4 nx _ 69 [some (vR (some 360)), some (vI k)] [] (fl V 362 0 k g)) (fun k => (5 * (fs.length : Int) - k).toNat) (fun k => 0 ≤ k ∧ k ≤ 5 * (fs.length : Int)) ?_ 0 (by omega)
        intro k hk ih2
        have f4 : fl V 362 0 k g 360 4 = fs.length := by rw [fl_o _ _ _ _ _ (by omega)]; exact hV4
        have f363 : fl V 362 0 k g 363 = g := by funext j; rw [fl_o _ _ _ _ _ (by omega), hV363]
        refine x_iload_n dX4_forms_69 rfl ?_
        refine x_aload_n dX4_forms_70 rfl ?_
        refine m_getI (kf := 4) 4 (by decide) rfl rfl q2119 rfl dX4_forms_71 ?_
        rw [f4]
        refine x_iconst dX4_forms_74 ?_
        refine x_imul dX4_forms_75 ?_
        refine x_icmp_ge (t := 97) dX4_forms_76 (by decide) (by omega) (fun c_76 => ?_) (fun c_76 => ?_)
        · skip
          refine x_aload_n dX4_forms_97 rfl ?_
          refine x_iconst dX4_forms_98 ?_
          refine m_putI (kf := 8) 8 (by decide) rfl rfl q2123 rfl rfl (rr_nar_i _) dX4_forms_99 ?_
          refine x_aload_n dX4_forms_102 rfl ?_
          refine m_cw0 (c_clearsTold) fX4_clearsTold q2111 (by decide) (Nat.le_of_ble_eq_true rfl) dX4_forms_103 ?_
          refine x_aload_n dX4_forms_106 rfl ?_
          refine m_getI (kf := 4) 4 (by decide) rfl rfl q2119 rfl dX4_forms_107 ?_
          rw [show mClr (rr_u2 (fl V 362 0 k g) 360 8 0) 360 4 = fs.length from by simp only [mClr]; rw [if_neg (by omega), if_neg (by omega), rr_u2_ne _ _ (by omega)]; exact f4]
          refine x_iret rfl dX4_forms_110 (Nat.le_refl _) (Nat.le_refl _) ?_
          refine ⟨_, rfl, rfl, _, rfl, ?_, Or.inr ⟨by rw [hrf], by rw [hrf], by rw [hrf]; exact hn, ?_, ?_, ?_, ?_, ?_, ?_, ?_⟩⟩
          · simp only [mClr]
            rw [if_neg (by omega), if_neg (by omega), rr_u2_ne _ _ (by omega), fl_o _ _ _ _ _ (by omega), hVe.2 1 (by decide)]
            exact e1
          · simp only [mClr]
            rw [if_neg (by omega), if_neg (by omega), rr_u2_ne _ _ (by omega), f4, hrf]
          · rw [hrf]
            intro i hi
            have hi : i < fs.length := hi
            obtain ⟨a1, a2⟩ := he i hi
            refine ⟨a1, fun y hy => ?_⟩
            have hx : mClr (rr_u2 (fl V 362 0 k g) 360 8 0) 362 (5 * (i : Int) + y) = g (5 * (i : Int) + y) := by
              simp only [mClr]
              rw [if_neg (by omega), if_neg (by omega), rr_u2_ne _ _ (by omega)]
              simp only [fl]
              rw [if_pos ⟨trivial, by omega, by omega⟩]
            rw [hx]
            exact a2 y hy
          · simp only [mClr]
            rw [if_neg (by omega), if_neg (by omega), rr_u2_same]
          · have hx : rr_u2 (fl V 362 0 k g) 360 8 0 369 = I 369 := by
              funext j
              rw [rr_u2_ne _ _ (by omega), fl_o _ _ _ _ _ (by omega), hVe.1 369 (by decide) (by decide), hK0.1 369 (by decide) (by decide)]
            funext j
            simp only [mClr, if_true]
            rw [hx]
          · simp [mClr]
          · simp [mClr]
          · refine ⟨fun x h1 h2 => ?_, fun j hj => ?_⟩
            · funext j
              simp at h2
              simp only [mClr]
              rw [if_neg (by omega), if_neg (by omega), rr_u2_ne _ _ (by omega), fl_o _ _ _ _ _ (by omega), hVe.1 x h1 (by simp), hK0.1 x h1 (by simp; omega)]
            · simp at hj
              simp only [mClr]
              rw [if_neg (by omega), if_neg (by omega), rr_u2_ne _ _ (by omega), fl_o _ _ _ _ _ (by omega), hVe.2 j (by simp; omega), hK0.2 j (by simp; omega)]
        · skip
          refine x_aload_n dX4_forms_79 rfl ?_
          refine m_getA (kf := 6) 6 (a := 362) (by decide) rfl rfl q2121 rfl rfl dX4_forms_80 ?_
          refine x_iload_n dX4_forms_83 rfl ?_
          refine x_aload_n dX4_forms_84 rfl ?_
          refine m_getA (kf := 7) 7 (a := 363) (by decide) rfl rfl q2122 rfl rfl dX4_forms_85 ?_
          refine x_iload_n dX4_forms_88 rfl ?_
          refine m_iald (n := 105) rfl rfl (by decide) (by omega) dX4_forms_89 ?_
          rw [f363]
          refine m_iast (n := 100) rfl rfl (by decide) (by omega) dX4_forms_90 ?_
          rw [show rr_u2 (fl V 362 0 k g) 362 k (g k) = fl V 362 0 (k + 1) g from by apply rr_u2_eq; intro x j; simp only [rr_u2, fl]; grind (splits := 20)]
          refine x_iinc dX4_forms_91 rfl (by decide) ?_
          refine x_goto (t := 69) dX4_forms_94 (by decide) ?_
          exact ih2 (k + 1) (by omega) (by omega)
      · skip
        exact absurd rfl c_48
    · skip
      refine x_aload_n dX4_forms_28 rfl ?_
      refine m_ew0 (c_readsForm h1 (by omega) hn hg he) fX4_readsForm q2287 (by decide) (Nat.le_of_ble_eq_true rfl) dX4_forms_29 (fun J hJ => ?_)
      rw [if_neg c_25] at hstep
      obtain ⟨p2, f2, g2, rfl, hg2, hf2, hp2, hfe, hok⟩ := hJ
      have hB : mC yX4_blanks cX4_blanks 1 none 1 [vR (some 360)] (mW I p2 f2 ((fs.length : Int) + 1) g2) none (mW I (blk (mSg I) p2) f2 ((fs.length : Int) + 1) g2) := mW_C (by
        have := c_blanks (I := mW I p2 f2 ((fs.length : Int) + 1) g2) (p := p2) (f := f2) (by omega) (by rw [(mW_at I p2 f2 ((fs.length : Int) + 1) g2).2.2.2.1]; exact h1)
        rw [mSg_mW] at this
        exact this)
      refine x_aload_n dX4_forms_32 rfl ?_
      refine m_cw0 (hB) fX4_blanks q2275 (by decide) (Nat.le_of_ble_eq_true rfl) dX4_forms_33 ?_
      refine x_goto (t := 13) dX4_forms_36 (by decide) ?_
      by_cases ef : f2 = -1
      · obtain ⟨o1, o2⟩ := hok ef
        rw [if_pos (by rw [← hfe]; exact ef)] at hstep
        have hne : fs.length ≠ 20 := fun z => by
          have : (pForm (mSg I) fs q).1 ≠ -1 := by
            unfold pForm
            rw [if_pos z]
            dsimp only
            split <;> omega
          exact this (by rw [← hfe]; exact ef)
        have hq300 : p2 ≤ 300 := by
          have hpp : (pForm (mSg I) fs q).1 = -1 := by rw [← hfe]; exact ef
          have : (pForm (mSg I) fs q).2.1 ≤ 300 := by
            unfold pForm at hpp ⊢
            rw [if_neg hne] at hpp ⊢
            split at hpp
            · rename_i a1
              rw [if_pos a1]
              split at hpp
              · rename_i a2
                rw [if_pos a2]
                split at hpp
                · simp only at hpp; omega
                · rename_i a3
                  rw [if_neg a3]
                  simp only
                  rcases Int.lt_or_le (blk (mSg I) (rdN (mSg I) 5 q []).2.1) 300 with z | z
                  · omega
                  · rw [mSg_no h1 z] at a2; omega
              · rename_i a2
                simp only at hpp
                exfalso
                have := rdN_in h1 5 q [] (by omega)
                have := blk_le h1 this.1
                omega
            · rename_i a1
              exact absurd hpp a1
          omega
        have hgo := ih (fs ++ [(pForm (mSg I) fs q).2.2], p2, g2) ⟨by simp; omega, by simp only; omega, hg2, o2, by rw [hrf, hstep, o1]; simp⟩ (by simp; omega)
        rw [ef]
        simp only [List.length_append, List.length_singleton] at hgo
        exact x_h (by rw [show (((fs.length + 1 : Nat)) : Int) = (fs.length : Int) + 1 by omega]) hgo
      · rw [if_neg (by rw [← hfe]; exact ef)] at hstep
        exact c_forms_bad (by omega) (by rw [hrf, hstep, hfe])
