set_option maxRecDepth 100000
/-! THE MODEL's methods, 12: the grid's clues -/
def clueAt (k a b : Int) : Int := 20 * (20 * k + a) + b
theorem c_clueAt {I : Nat → Int → Int} {k a b : Int} : mC yX4_clueAt cX4_clueAt 3 (some FieldType.int) 0 [vI k, vI a, vI b] I (some (vI (clueAt k a b))) I := by
  refine mC.of (by decide) rfl (Nat.le_of_ble_eq_true rfl) (fun G nx => ?_)
  refine x_ls (ls2 := [some (vI k), some (vI a), some (vI b)]) rfl ?_
  refine x_bipush dX4_clueAt_0 (by decide) ?_
  refine x_bipush dX4_clueAt_2 (by decide) ?_
  refine x_iload_n dX4_clueAt_4 rfl ?_
  refine x_imul dX4_clueAt_5 ?_
  refine x_iload_n dX4_clueAt_6 rfl ?_
  refine x_iadd dX4_clueAt_7 ?_
  refine x_imul dX4_clueAt_8 ?_
  refine x_iload_n dX4_clueAt_9 rfl ?_
  refine x_iadd dX4_clueAt_10 ?_
  refine x_iret rfl dX4_clueAt_11 (Nat.le_refl _) (Nat.le_refl _) ?_
  exact ⟨rfl, rfl, rfl⟩
theorem clueAt_in {k a b : Int} (hk : k = 0 ∨ k = 1) (ha : 0 ≤ a ∧ a < 20) (hb : 0 ≤ b ∧ b < 20) : 0 ≤ clueAt k a b ∧ clueAt k a b < 800 := by
  unfold clueAt; omega
theorem clueAt_inj {k a b k' a' b' : Int} (ha : 0 ≤ a ∧ a < 20) (hb : 0 ≤ b ∧ b < 20) (ha' : 0 ≤ a' ∧ a' < 20) (hb' : 0 ≤ b' ∧ b' < 20) (h : clueAt k a b = clueAt k' a' b') : k = k' ∧ a = a' ∧ b = b' := by
  unfold clueAt at h; omega
def mTC (I : Nat → Int → Int) (k a b : Int) : Nat → Int → Int := if a = b then I else rr_u2 (rr_u2 I 382 (clueAt k a b) 1) 382 (clueAt k b a) 1
theorem c_tellsClue {I : Nat → Int → Int} {k a b : Int} (hk : k = 0 ∨ k = 1) (ha : 0 ≤ a ∧ a < 20) (hb : 0 ≤ b ∧ b < 20) : mC yX4_tellsClue cX4_tellsClue 4 none 1 [vR (some 360), vI k, vI a, vI b] I none (mTC I k a b) := by
  have h1 := clueAt_in hk ha hb
  have h2 := clueAt_in hk hb ha
  refine mC.of (by decide) rfl (Nat.le_of_ble_eq_true rfl) (fun G nx => ?_)
  refine x_ls (ls2 := [some (vR (some 360)), some (vI k), some (vI a), some (vI b)]) rfl ?_
  unfold mTC
  refine x_iload_n dX4_tellsClue_0 rfl ?_
  refine x_iload_n dX4_tellsClue_1 rfl ?_
  refine x_icmp_eq (t := 29) dX4_tellsClue_2 (by decide) (by omega) (fun c_2 => ?_) (fun c_2 => ?_)
  · skip
    rw [if_pos c_2]
    refine x_vret rfl dX4_tellsClue_29 (Nat.le_refl _) (Nat.le_refl _) ?_
    exact ⟨rfl, rfl, rfl⟩
  · skip
    rw [if_neg c_2]
    refine x_aload_n dX4_tellsClue_5 rfl ?_
    refine m_getA (kf := 34) 34 (a := 382) (by decide) rfl rfl q2149 rfl rfl dX4_tellsClue_6 ?_
    refine x_iload_n dX4_tellsClue_9 rfl ?_
    refine x_iload_n dX4_tellsClue_10 rfl ?_
    refine x_iload_n dX4_tellsClue_11 rfl ?_
    refine m_cs3 (c_clueAt) fX4_clueAt q2491 (by decide) (Nat.le_of_ble_eq_true rfl) dX4_tellsClue_12 ?_
    refine x_iconst dX4_tellsClue_15 ?_
    refine m_zast (n := 800) rfl rfl (by decide) (by omega) (by first | exact Or.inl rfl | exact Or.inr rfl | omega) dX4_tellsClue_16 ?_
    refine x_aload_n dX4_tellsClue_17 rfl ?_
    refine m_getA (kf := 34) 34 (a := 382) (by decide) rfl rfl q2149 rfl rfl dX4_tellsClue_18 ?_
    refine x_iload_n dX4_tellsClue_21 rfl ?_
    refine x_iload_n dX4_tellsClue_22 rfl ?_
    refine x_iload_n dX4_tellsClue_23 rfl ?_
    refine m_cs3 (c_clueAt) fX4_clueAt q2491 (by decide) (Nat.le_of_ble_eq_true rfl) dX4_tellsClue_24 ?_
    refine x_iconst dX4_tellsClue_27 ?_
    refine m_zast (n := 800) rfl rfl (by decide) (by omega) (by first | exact Or.inl rfl | exact Or.inr rfl | omega) dX4_tellsClue_28 ?_
    refine x_vret rfl dX4_tellsClue_29 (Nat.le_refl _) (Nat.le_refl _) ?_
    exact ⟨rfl, rfl, rfl⟩
/-- the clues P stand in their array -/
def CE (I : Nat → Int → Int) (P : Int → Int → Int → Prop) : Prop := ∀ k a b, (k = 0 ∨ k = 1) → (0 ≤ a ∧ a < 20) → (0 ≤ b ∧ b < 20) → I 382 (clueAt k a b) = bi (P k a b)
def twoOf (x y a b : Int) : Prop := a ≠ b ∧ ((a = x ∧ b = y) ∨ (a = y ∧ b = x))
theorem CE.iff {I : Nat → Int → Int} {P Q : Int → Int → Int → Prop} (h : CE I P) (hq : ∀ k a b, (k = 0 ∨ k = 1) → (0 ≤ a ∧ a < 20) → (0 ≤ b ∧ b < 20) → (P k a b ↔ Q k a b)) : CE I Q := fun k a b h1 h2 h3 => by rw [h k a b h1 h2 h3]; exact bi_iff (hq k a b h1 h2 h3)
theorem CE.tc {I : Nat → Int → Int} {P : Int → Int → Int → Prop} (h : CE I P) {k x y : Int} (hx : 0 ≤ x ∧ x < 20) (hy : 0 ≤ y ∧ y < 20) : CE (mTC I k x y) (fun k' a b => P k' a b ∨ (k' = k ∧ twoOf x y a b)) := by
  intro k' a b h1 h2 h3
  have h4 := h k' a b h1 h2 h3
  unfold mTC
  by_cases e : x = y
  · rw [if_pos e, h4]
    refine bi_iff ⟨Or.inl, fun q => q.elim id (fun z => ?_)⟩
    have := z.2
    unfold twoOf at this
    omega
  · rw [if_neg e]
    by_cases e2 : k' = k ∧ twoOf x y a b
    · rw [bi_t (Or.inr e2)]
      have e3 := e2.2
      unfold twoOf at e3
      rcases e3.2 with q | q
      · rw [q.1, q.2, e2.1, rr_u2_ne _ _ (fun z => by have := clueAt_inj hx hy hy hx z.2; omega), rr_u2_same]
      · rw [q.1, q.2, e2.1, rr_u2_same]
    · rw [rr_u2_ne _ _ (fun z => ?_), rr_u2_ne _ _ (fun z => ?_), h4]
      · exact bi_iff ⟨Or.inl, fun q => q.elim id (fun z => absurd z e2)⟩
      · have := clueAt_inj h2 h3 hx hy z.2
        exact e2 ⟨this.1, by omega, Or.inl this.2⟩
      · have := clueAt_inj h2 h3 hy hx z.2
        exact e2 ⟨this.1, by omega, Or.inr this.2⟩
theorem mTC_ne (I : Nat → Int → Int) (k a b : Int) {x : Nat} (h : x ≠ 382) : mTC I k a b x = I x := by
  unfold mTC
  split
  · rfl
  · funext j
    rw [rr_u2_ne _ _ (fun z => h z.1), rr_u2_ne _ _ (fun z => h z.1)]
/-- at how many places words are unlike -/
noncomputable def dif (p q : List Int) : Int := cnt (fun k => p.getD k.toNat 0 ≠ q.getD k.toNat 0) p.length
theorem WOK.at {p : List Int} (h : WOK p) {k : Nat} (hk : k < p.length) : 0 ≤ p.getD k 0 ∧ p.getD k 0 < 20 := by
  rw [List.getD_eq_getElem?_getD, List.getElem?_eq_getElem hk]
  exact h.2 _ (List.getElem_mem _)
theorem c_unlikePlaces {I : Nat → Int → Int} {L : List (List Int × Int)} {i j : Nat} {p q : List Int × Int} (hW : WE I L) (hL : L.length ≤ 240) (hi : L[i]? = some p) (hj : L[j]? = some q) (hpq : q.1.length = p.1.length) : mC yX4_unlikePlaces cX4_unlikePlaces 5 (some FieldType.int) 1 [vR (some 360), vI (i : Int), vI (j : Int)] I (some (vI (dif p.1 q.1))) I := by
  have hi2 := (List.getElem?_eq_some_iff.mp hi).1
  have hj2 := (List.getElem?_eq_some_iff.mp hj).1
  obtain ⟨p1, -, p3⟩ := hW.at hi
  obtain ⟨q1, -, q3⟩ := hW.at hj
  have hp := (hW.2 i p hi).2
  have hq := (hW.2 j q hj).2
  have hp1 := hp.1
  refine mC.of (by decide) rfl (Nat.le_of_ble_eq_true rfl) (fun G nx => ?_)
  refine x_ls (ls2 := [some (vR (some 360)), some (vI (i : Int)), some (vI (j : Int)), none, none]) rfl ?_
  refine x_iconst dX4_unlikePlaces_0 ?_
  refine x_istore_n dX4_unlikePlaces_1 (by decide) ?_
  refine x_iconst dX4_unlikePlaces_2 ?_
  refine x_istore dX4_unlikePlaces_3 (by decide) ?_
  refine x_loc (ls2 := [some (vR (some 360)), some (vI (i : Int)), some (vI (j : Int)), some (vI (cnt (fun k => p.1.getD k.toNat 0 ≠ q.1.getD k.toNat 0) ((0 : Nat) : Int))), some (vI ((0 : Nat) : Int))]) (by rw [show ((0 : Nat) : Int) = 0 from rfl, cnt_0]; exact (by repeat first | exact trivial | refine ⟨Or.inr rfl, ?_⟩ | refine ⟨Or.inl rfl, ?_⟩)) ?_
  refine rr_ind (W := fun k : Nat => mm G yX4_unlikePlaces cX4_unlikePlaces 5 (some FieldType.int) 1 nx _ _ 5 [some (vR (some 360)), some (vI (i : Int)), some (vI (j : Int)), some (vI (cnt (fun k => p.1.getD k.toNat 0 ≠ q.1.getD k.toNat 0) (k : Int))), some (vI (k : Int))] [] I) (fun k => p.1.length - k) (fun k => k ≤ p.1.length) ?_ 0 (by omega)
  intro k hk ih
  have hc := cnt_in (fun k => p.1.getD k.toNat 0 ≠ q.1.getD k.toNat 0) (n := (k : Int)) (by omega)
  have hup := cnt_up (fun k => p.1.getD k.toNat 0 ≠ q.1.getD k.toNat 0) (k := (k : Int)) (by omega)
  rw [show (k : Int).toNat = k by omega] at hup
  refine x_iload dX4_unlikePlaces_5 rfl ?_
  refine x_aload_n dX4_unlikePlaces_7 rfl ?_
  refine m_getA (kf := 27) 27 (a := 376) (by decide) rfl rfl q2142 rfl rfl dX4_unlikePlaces_8 ?_
  refine x_iload_n dX4_unlikePlaces_11 rfl ?_
  refine m_iald (n := 241) rfl rfl (by decide) (by omega) dX4_unlikePlaces_12 ?_
  rw [p1]
  refine x_icmp_ge (t := 60) dX4_unlikePlaces_13 (by decide) (by omega) (fun c_13 => ?_) (fun c_13 => ?_)
  · skip
    refine x_iload_n dX4_unlikePlaces_60 rfl ?_
    refine x_iret rfl dX4_unlikePlaces_61 (Nat.le_refl _) (Nat.le_refl _) ?_
    exact ⟨by rw [show k = p.1.length by omega]; rfl, rfl, rfl⟩
  · skip
    refine x_iload_n dX4_unlikePlaces_16 rfl ?_
    refine x_aload_n dX4_unlikePlaces_17 rfl ?_
    refine m_getA (kf := 28) 28 (a := 377) (by decide) rfl rfl q2143 rfl rfl dX4_unlikePlaces_18 ?_
    refine x_bipush dX4_unlikePlaces_21 (by decide) ?_
    refine x_iload_n dX4_unlikePlaces_23 rfl ?_
    refine x_imul dX4_unlikePlaces_24 ?_
    refine x_iload dX4_unlikePlaces_25 rfl ?_
    refine x_iadd dX4_unlikePlaces_27 ?_
    refine m_iald (n := 1687) rfl rfl (by decide) (by omega) dX4_unlikePlaces_28 ?_
    rw [p3 k (by omega)]
    refine x_aload_n dX4_unlikePlaces_29 rfl ?_
    refine m_getA (kf := 28) 28 (a := 377) (by decide) rfl rfl q2143 rfl rfl dX4_unlikePlaces_30 ?_
    refine x_bipush dX4_unlikePlaces_33 (by decide) ?_
    refine x_iload_n dX4_unlikePlaces_35 rfl ?_
    refine x_imul dX4_unlikePlaces_36 ?_
    refine x_iload dX4_unlikePlaces_37 rfl ?_
    refine x_iadd dX4_unlikePlaces_39 ?_
    refine m_iald (n := 1687) rfl rfl (by decide) (by omega) dX4_unlikePlaces_40 ?_
    rw [q3 k (by omega)]
    have hb1 := hp.at (k := k) (by omega)
    have hb2 := hq.at (k := k) (by omega)
    refine x_icmp_eq (t := 48) dX4_unlikePlaces_41 (by decide) (by omega) (fun c_41 => ?_) (fun c_41 => ?_)
    · skip
      refine x_iconst dX4_unlikePlaces_48 ?_
      refine x_top (bi (p.1.getD k 0 ≠ q.1.getD k 0)) (by first | exact (bi_f (fun z => z c_41)).symm | exact (bi_t c_41).symm) ?_
      refine m_cs1 (c_truth) fX4_truth q2327 (by decide) (Nat.le_of_ble_eq_true rfl) dX4_unlikePlaces_49 ?_
      refine x_iadd dX4_unlikePlaces_52 ?_
      rw [← hup]
      refine x_istore_n dX4_unlikePlaces_53 (by decide) ?_
      refine x_iinc dX4_unlikePlaces_54 rfl (by decide) ?_
      refine x_goto (t := 5) dX4_unlikePlaces_57 (by decide) ?_
      exact x_loc (by rw [show ((k + 1 : Nat) : Int) = (k : Int) + 1 by omega]; exact (by repeat first | exact trivial | refine ⟨Or.inr rfl, ?_⟩ | refine ⟨Or.inl rfl, ?_⟩)) (ih (k + 1) (by omega) (by omega))
    · skip
      refine x_iconst dX4_unlikePlaces_44 ?_
      refine x_goto (t := 49) dX4_unlikePlaces_45 (by decide) ?_
      refine x_top (bi (p.1.getD k 0 ≠ q.1.getD k 0)) (by first | exact (bi_f (fun z => z c_41)).symm | exact (bi_t c_41).symm) ?_
      refine m_cs1 (c_truth) fX4_truth q2327 (by decide) (Nat.le_of_ble_eq_true rfl) dX4_unlikePlaces_49 ?_
      refine x_iadd dX4_unlikePlaces_52 ?_
      rw [← hup]
      refine x_istore_n dX4_unlikePlaces_53 (by decide) ?_
      refine x_iinc dX4_unlikePlaces_54 rfl (by decide) ?_
      refine x_goto (t := 5) dX4_unlikePlaces_57 (by decide) ?_
      exact x_loc (by rw [show ((k + 1 : Nat) : Int) = (k : Int) + 1 by omega]; exact (by repeat first | exact trivial | refine ⟨Or.inr rfl, ?_⟩ | refine ⟨Or.inl rfl, ?_⟩)) (ih (k + 1) (by omega) (by omega))
/-- words that tell a clue -/
def tellsW (p q : List Int) : Prop := 2 ≤ p.length ∧ q.length = p.length ∧ dif p q = 1
def lst (p : List Int) : Int := p.getD (p.length - 1) 0
noncomputable def mCO (I : Nat → Int → Int) (p q : List Int) : Nat → Int → Int := @ite _ (tellsW p q) (Classical.propDecidable _) (mTC (mTC I 0 (lst p) (lst q)) 1 (p.getD 0 0) (q.getD 0 0)) I
theorem mTC_same (I : Nat → Int → Int) (k : Int) {a b : Int} (h : a = b) : mTC I k a b = I := if_pos h
theorem c_cluesOf {I : Nat → Int → Int} {L : List (List Int × Int)} {i j : Nat} {p q : List Int × Int} (hW : WE I L) (hL : L.length ≤ 240) (hi : L[i]? = some p) (hj : L[j]? = some q) : mC yX4_cluesOf cX4_cluesOf 5 none 2 [vR (some 360), vI (i : Int), vI (j : Int)] I none (mCO I p.1 q.1) := by
  have hi2 := (List.getElem?_eq_some_iff.mp hi).1
  have hj2 := (List.getElem?_eq_some_iff.mp hj).1
  obtain ⟨p1, -, p3⟩ := hW.at hi
  obtain ⟨q1, -, q3⟩ := hW.at hj
  have hp := (hW.2 i p hi).2
  have hq := (hW.2 j q hj).2
  have hp1 := hp.1
  have hq1 := hq.1
  have hdif := cnt_in (fun k => p.1.getD k.toNat 0 ≠ q.1.getD k.toNat 0) (n := (p.1.length : Int)) (by omega)
  have hdd : dif p.1 q.1 = cnt (fun k => p.1.getD k.toNat 0 ≠ q.1.getD k.toNat 0) p.1.length := rfl
  have hno : ¬ tellsW p.1 q.1 → mCO I p.1 q.1 = I := fun z => by unfold mCO; rw [if_neg z]
  have hyes : tellsW p.1 q.1 → mCO I p.1 q.1 = mTC (mTC I 0 (lst p.1) (lst q.1)) 1 (p.1.getD 0 0) (q.1.getD 0 0) := fun z => by unfold mCO; rw [if_pos z]
  refine mC.of (by decide) rfl (Nat.le_of_ble_eq_true rfl) (fun G nx => ?_)
  refine x_ls (ls2 := [some (vR (some 360)), some (vI (i : Int)), some (vI (j : Int)), none, none]) rfl ?_
  refine x_aload_n dX4_cluesOf_0 rfl ?_
  refine m_getA (kf := 27) 27 (a := 376) (by decide) rfl rfl q2142 rfl rfl dX4_cluesOf_1 ?_
  refine x_iload_n dX4_cluesOf_4 rfl ?_
  refine m_iald (n := 241) rfl rfl (by decide) (by omega) dX4_cluesOf_5 ?_
  rw [p1]
  refine x_istore_n dX4_cluesOf_6 (by decide) ?_
  refine x_iload_n dX4_cluesOf_7 rfl ?_
  refine x_iconst dX4_cluesOf_8 ?_
  refine x_icmp_lt (t := 32) dX4_cluesOf_9 (by decide) (by omega) (fun c_9 => ?_) (fun c_9 => ?_)
  · skip
    have hn := hno (fun z => by have := z.1; omega)
    refine x_vret rfl dX4_cluesOf_32 (Nat.le_refl _) (Nat.le_refl _) ?_
    exact ⟨rfl, by rw [hn], rfl⟩
  · skip
    refine x_aload_n dX4_cluesOf_12 rfl ?_
    refine m_getA (kf := 27) 27 (a := 376) (by decide) rfl rfl q2142 rfl rfl dX4_cluesOf_13 ?_
    refine x_iload_n dX4_cluesOf_16 rfl ?_
    refine m_iald (n := 241) rfl rfl (by decide) (by omega) dX4_cluesOf_17 ?_
    rw [q1]
    refine x_iload_n dX4_cluesOf_18 rfl ?_
    refine x_icmp_ne (t := 32) dX4_cluesOf_19 (by decide) (by omega) (fun c_19 => ?_) (fun c_19 => ?_)
    · skip
      have hn := hno (fun z => by have := z.2.1; omega)
      refine x_vret rfl dX4_cluesOf_32 (Nat.le_refl _) (Nat.le_refl _) ?_
      exact ⟨rfl, by rw [hn], rfl⟩
    · skip
      refine x_aload_n dX4_cluesOf_22 rfl ?_
      refine x_iload_n dX4_cluesOf_23 rfl ?_
      refine x_iload_n dX4_cluesOf_24 rfl ?_
      refine m_cv2 (c_unlikePlaces hW hL hi hj (by omega)) fX4_unlikePlaces q2483 (by decide) (Nat.le_of_ble_eq_true rfl) dX4_cluesOf_25 ?_
      refine x_iconst dX4_cluesOf_28 ?_
      refine x_icmp_eq (t := 33) dX4_cluesOf_29 (by decide) (by omega) (fun c_29 => ?_) (fun c_29 => ?_)
      · skip
        refine x_bipush dX4_cluesOf_33 (by decide) ?_
        refine x_iload_n dX4_cluesOf_35 rfl ?_
        refine x_imul dX4_cluesOf_36 ?_
        refine x_iload_n dX4_cluesOf_37 rfl ?_
        refine x_iadd dX4_cluesOf_38 ?_
        refine x_iconst dX4_cluesOf_39 ?_
        refine x_isub dX4_cluesOf_40 ?_
        refine x_istore dX4_cluesOf_41 (by decide) ?_
        refine x_aload_n dX4_cluesOf_43 rfl ?_
        refine m_getA (kf := 28) 28 (a := 377) (by decide) rfl rfl q2143 rfl rfl dX4_cluesOf_44 ?_
        refine x_iload dX4_cluesOf_47 rfl ?_
        refine m_iald (n := 1687) rfl rfl (by decide) (by omega) dX4_cluesOf_49 ?_
        rw [show 7 * (i : Int) + p.1.length - 1 = 7 * (i : Int) + ((p.1.length - 1 : Nat) : Int) by omega, p3 _ (by omega)]
        refine x_aload_n dX4_cluesOf_50 rfl ?_
        refine m_getA (kf := 28) 28 (a := 377) (by decide) rfl rfl q2143 rfl rfl dX4_cluesOf_51 ?_
        refine x_bipush dX4_cluesOf_54 (by decide) ?_
        refine x_iload_n dX4_cluesOf_56 rfl ?_
        refine x_imul dX4_cluesOf_57 ?_
        refine x_iload_n dX4_cluesOf_58 rfl ?_
        refine x_iadd dX4_cluesOf_59 ?_
        refine x_iconst dX4_cluesOf_60 ?_
        refine x_isub dX4_cluesOf_61 ?_
        refine m_iald (n := 1687) rfl rfl (by decide) (by omega) dX4_cluesOf_62 ?_
        rw [show 7 * (j : Int) + p.1.length - 1 = 7 * (j : Int) + ((q.1.length - 1 : Nat) : Int) by omega, q3 _ (by omega)]
        refine x_top (lst q.1) rfl ?_
        have hbp := hp.at (k := p.1.length - 1) (by omega)
        have hbq := hq.at (k := q.1.length - 1) (by omega)
        have hbp0 := hp.at (k := 0) (by omega)
        have hbq0 := hq.at (k := 0) (by omega)
        have hye := hyes ⟨by omega, by omega, by omega⟩
        have p30 := p3 0 (by omega)
        have q30 := q3 0 (by omega)
        rw [show 7 * (i : Int) + ((0 : Nat) : Int) = 7 * (i : Int) by omega] at p30
        rw [show 7 * (j : Int) + ((0 : Nat) : Int) = 7 * (j : Int) by omega] at q30
        have hlp : p.1.getD (p.1.length - 1) 0 = lst p.1 := rfl
        have hlq : q.1.getD (q.1.length - 1) 0 = lst q.1 := rfl
        rw [hlp] at hbp
        rw [hlq] at hbq
        refine x_icmp_eq (t := 91) dX4_cluesOf_63 (by decide) (by omega) (fun c_63 => ?_) (fun c_63 => ?_)
        · skip
          refine x_h (h2 := mh (mTC I 0 (lst p.1) (lst q.1))) (by rw [mTC_same I 0 (show lst p.1 = lst q.1 from c_63)]) ?_
          refine x_aload_n dX4_cluesOf_91 rfl ?_
          refine m_getA (kf := 28) 28 (a := 377) (by decide) rfl rfl q2143 rfl rfl dX4_cluesOf_92 ?_
          refine x_bipush dX4_cluesOf_95 (by decide) ?_
          refine x_iload_n dX4_cluesOf_97 rfl ?_
          refine x_imul dX4_cluesOf_98 ?_
          refine m_iald (n := 1687) rfl rfl (by decide) (by omega) dX4_cluesOf_99 ?_
          rw [mTC_ne _ _ _ _ (by decide), p30]
          refine x_aload_n dX4_cluesOf_100 rfl ?_
          refine m_getA (kf := 28) 28 (a := 377) (by decide) rfl rfl q2143 rfl rfl dX4_cluesOf_101 ?_
          refine x_bipush dX4_cluesOf_104 (by decide) ?_
          refine x_iload_n dX4_cluesOf_106 rfl ?_
          refine x_imul dX4_cluesOf_107 ?_
          refine m_iald (n := 1687) rfl rfl (by decide) (by omega) dX4_cluesOf_108 ?_
          rw [mTC_ne _ _ _ _ (by decide), q30]
          refine x_icmp_eq (t := 135) dX4_cluesOf_109 (by decide) (by omega) (fun c_109 => ?_) (fun c_109 => ?_)
          · skip
            refine x_vret rfl dX4_cluesOf_135 (Nat.le_refl _) (Nat.le_refl _) ?_
            exact ⟨rfl, by rw [hye, mTC_same _ 1 c_109], rfl⟩
          · skip
            refine x_aload_n dX4_cluesOf_112 rfl ?_
            refine x_iconst dX4_cluesOf_113 ?_
            refine x_aload_n dX4_cluesOf_114 rfl ?_
            refine m_getA (kf := 28) 28 (a := 377) (by decide) rfl rfl q2143 rfl rfl dX4_cluesOf_115 ?_
            refine x_bipush dX4_cluesOf_118 (by decide) ?_
            refine x_iload_n dX4_cluesOf_120 rfl ?_
            refine x_imul dX4_cluesOf_121 ?_
            refine m_iald (n := 1687) rfl rfl (by decide) (by omega) dX4_cluesOf_122 ?_
            rw [mTC_ne _ _ _ _ (by decide), p30]
            refine x_aload_n dX4_cluesOf_123 rfl ?_
            refine m_getA (kf := 28) 28 (a := 377) (by decide) rfl rfl q2143 rfl rfl dX4_cluesOf_124 ?_
            refine x_bipush dX4_cluesOf_127 (by decide) ?_
            refine x_iload_n dX4_cluesOf_129 rfl ?_
            refine x_imul dX4_cluesOf_130 ?_
            refine m_iald (n := 1687) rfl rfl (by decide) (by omega) dX4_cluesOf_131 ?_
            rw [mTC_ne _ _ _ _ (by decide), q30]
            refine m_cw3 (c_tellsClue (by omega) (by omega) (by omega)) fX4_tellsClue q2487 (by decide) (Nat.le_of_ble_eq_true rfl) dX4_cluesOf_132 ?_
            refine x_vret rfl dX4_cluesOf_135 (Nat.le_refl _) (Nat.le_refl _) ?_
            exact ⟨rfl, by rw [hye], rfl⟩
        · skip
          refine x_aload_n dX4_cluesOf_66 rfl ?_
          refine x_iconst dX4_cluesOf_67 ?_
          refine x_aload_n dX4_cluesOf_68 rfl ?_
          refine m_getA (kf := 28) 28 (a := 377) (by decide) rfl rfl q2143 rfl rfl dX4_cluesOf_69 ?_
          refine x_iload dX4_cluesOf_72 rfl ?_
          refine m_iald (n := 1687) rfl rfl (by decide) (by omega) dX4_cluesOf_74 ?_
          rw [p3 _ (by omega), hlp]
          refine x_aload_n dX4_cluesOf_75 rfl ?_
          refine m_getA (kf := 28) 28 (a := 377) (by decide) rfl rfl q2143 rfl rfl dX4_cluesOf_76 ?_
          refine x_bipush dX4_cluesOf_79 (by decide) ?_
          refine x_iload_n dX4_cluesOf_81 rfl ?_
          refine x_imul dX4_cluesOf_82 ?_
          refine x_iload_n dX4_cluesOf_83 rfl ?_
          refine x_iadd dX4_cluesOf_84 ?_
          refine x_iconst dX4_cluesOf_85 ?_
          refine x_isub dX4_cluesOf_86 ?_
          refine m_iald (n := 1687) rfl rfl (by decide) (by omega) dX4_cluesOf_87 ?_
          rw [show 7 * (j : Int) + p.1.length - 1 = 7 * (j : Int) + ((q.1.length - 1 : Nat) : Int) by omega, q3 _ (by omega), hlq]
          refine m_cw3 (c_tellsClue (by omega) (by omega) (by omega)) fX4_tellsClue q2487 (by decide) (Nat.le_of_ble_eq_true rfl) dX4_cluesOf_88 ?_
          refine x_aload_n dX4_cluesOf_91 rfl ?_
          refine m_getA (kf := 28) 28 (a := 377) (by decide) rfl rfl q2143 rfl rfl dX4_cluesOf_92 ?_
          refine x_bipush dX4_cluesOf_95 (by decide) ?_
          refine x_iload_n dX4_cluesOf_97 rfl ?_
          refine x_imul dX4_cluesOf_98 ?_
          refine m_iald (n := 1687) rfl rfl (by decide) (by omega) dX4_cluesOf_99 ?_
          rw [mTC_ne _ _ _ _ (by decide), p30]
          refine x_aload_n dX4_cluesOf_100 rfl ?_
          refine m_getA (kf := 28) 28 (a := 377) (by decide) rfl rfl q2143 rfl rfl dX4_cluesOf_101 ?_
          refine x_bipush dX4_cluesOf_104 (by decide) ?_
          refine x_iload_n dX4_cluesOf_106 rfl ?_
          refine x_imul dX4_cluesOf_107 ?_
          refine m_iald (n := 1687) rfl rfl (by decide) (by omega) dX4_cluesOf_108 ?_
          rw [mTC_ne _ _ _ _ (by decide), q30]
          refine x_icmp_eq (t := 135) dX4_cluesOf_109 (by decide) (by omega) (fun c_109 => ?_) (fun c_109 => ?_)
          · skip
            refine x_vret rfl dX4_cluesOf_135 (Nat.le_refl _) (Nat.le_refl _) ?_
            exact ⟨rfl, by rw [hye, mTC_same _ 1 c_109], rfl⟩
          · skip
            refine x_aload_n dX4_cluesOf_112 rfl ?_
            refine x_iconst dX4_cluesOf_113 ?_
            refine x_aload_n dX4_cluesOf_114 rfl ?_
            refine m_getA (kf := 28) 28 (a := 377) (by decide) rfl rfl q2143 rfl rfl dX4_cluesOf_115 ?_
            refine x_bipush dX4_cluesOf_118 (by decide) ?_
            refine x_iload_n dX4_cluesOf_120 rfl ?_
            refine x_imul dX4_cluesOf_121 ?_
            refine m_iald (n := 1687) rfl rfl (by decide) (by omega) dX4_cluesOf_122 ?_
            rw [mTC_ne _ _ _ _ (by decide), p30]
            refine x_aload_n dX4_cluesOf_123 rfl ?_
            refine m_getA (kf := 28) 28 (a := 377) (by decide) rfl rfl q2143 rfl rfl dX4_cluesOf_124 ?_
            refine x_bipush dX4_cluesOf_127 (by decide) ?_
            refine x_iload_n dX4_cluesOf_129 rfl ?_
            refine x_imul dX4_cluesOf_130 ?_
            refine m_iald (n := 1687) rfl rfl (by decide) (by omega) dX4_cluesOf_131 ?_
            rw [mTC_ne _ _ _ _ (by decide), q30]
            refine m_cw3 (c_tellsClue (by omega) (by omega) (by omega)) fX4_tellsClue q2487 (by decide) (Nat.le_of_ble_eq_true rfl) dX4_cluesOf_132 ?_
            refine x_vret rfl dX4_cluesOf_135 (Nat.le_refl _) (Nat.le_refl _) ?_
            exact ⟨rfl, by rw [hye], rfl⟩
      · skip
        have hn := hno (fun z => by have := z.2.2; omega)
        refine x_vret rfl dX4_cluesOf_32 (Nat.le_refl _) (Nat.le_refl _) ?_
        exact ⟨rfl, by rw [hn], rfl⟩
theorem CE.co {I : Nat → Int → Int} {P : Int → Int → Int → Prop} (h : CE I P) {p q : List Int} (hp : WOK p) (hq : WOK q) : CE (mCO I p q) (fun k a b => P k a b ∨ (tellsW p q ∧ ((k = 0 ∧ twoOf (lst p) (lst q) a b) ∨ (k = 1 ∧ twoOf (p.getD 0 0) (q.getD 0 0) a b)))) := by
  have hp1 := hp.1
  have hq1 := hq.1
  have hbp := hp.at (k := p.length - 1) (by omega)
  have hbq := hq.at (k := q.length - 1) (by omega)
  have hbp0 := hp.at (k := 0) (by omega)
  have hbq0 := hq.at (k := 0) (by omega)
  unfold mCO
  by_cases e : tellsW p q
  · rw [if_pos e]
    refine ((h.tc (k := 0) hbp hbq).tc (k := 1) hbp0 hbq0).iff (fun k a b _ _ _ => ?_)
    simp only [e, true_and, or_assoc]
    exact Iff.rfl
  · rw [if_neg e]
    exact h.iff (fun k a b _ _ _ => by simp [e])
theorem mCO_ne (I : Nat → Int → Int) (p q : List Int) {x : Nat} (h : x ≠ 382) : mCO I p q x = I x := by
  unfold mCO
  split
  · rw [mTC_ne _ _ _ _ h, mTC_ne _ _ _ _ h]
  · rfl
