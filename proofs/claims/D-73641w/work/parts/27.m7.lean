set_option maxRecDepth 100000
/-! THE MODEL's methods, 7: rows as they are read, as lists -/
/-- a list laid into an array from b on -/
def wr (f : Int → Int) (b : Int) (l : List Int) : Int → Int := fun j => if b ≤ j ∧ j < b + l.length then l.getD (j - b).toNat 0 else f j
theorem wr_nil (f : Int → Int) (b : Int) : wr f b [] = f := by funext j; simp only [wr]; rw [if_neg (by simp)]
theorem wr_snoc (f : Int → Int) (b : Int) (l : List Int) (v : Int) : wr f b (l ++ [v]) = upA (wr f b l) (b + l.length) v := by
  funext j
  simp only [wr, upA, List.length_append, List.length_singleton]
  by_cases h : j = b + l.length
  · rw [if_pos (by omega), if_pos h, h, show (b + (l.length : Int) - b).toNat = l.length by omega]
    simp
  · rw [if_neg h]
    by_cases h2 : b ≤ j ∧ j < b + l.length
    · rw [if_pos (by omega), if_pos h2]
      have : (j - b).toNat < l.length := by omega
      simp [List.getD_eq_getElem?_getD, List.getElem?_append_left this]
    · rw [if_neg (by omega), if_neg h2]
theorem wr_at (f : Int → Int) (b : Int) (l : List Int) {i : Nat} (h : i < l.length) : wr f b l (b + i) = l.getD i 0 := by
  simp only [wr]
  rw [if_pos (by omega), show (b + (i : Int) - b).toNat = i by omega]
/-- the k-th place of a row as it is read -/
def plc (I : Nat → Int → Int) (w : Int) (left : Prop) [Decidable left] (k : Int) : Int := I 366 (10 * w + (if left then I 365 w - 1 - k else k))
def rowS (I : Nat → Int → Int) (w : Int) (left : Prop) [Decidable left] : Nat → List Int
  | 0 => []
  | k + 1 => rowS I w left k ++ (if plc I w left k = -1 then [] else [I 371 (plc I w left k)])
def rowL (I : Nat → Int → Int) (w : Int) (left : Prop) [Decidable left] : List Int := rowS I w left (I 365 w).toNat
theorem rowS_len (I : Nat → Int → Int) (w : Int) (left : Prop) [Decidable left] (k : Nat) : (rowS I w left k).length ≤ k := by
  induction k with
  | zero => simp [rowS]
  | succ k ih =>
    simp only [rowS]
    split <;> simp <;> omega
/-- where the j-th row begins -/
def bg (R : List (List Int)) (j : Int) : Int := ((R.take j.toNat).flatten.length : Int)
theorem bg_end (R : List (List Int)) : bg R R.length = R.flatten.length := by simp [bg]
theorem bg_snoc (R : List (List Int)) (l : List Int) {j : Int} (h : j ≤ R.length) : bg (R ++ [l]) j = bg R j := by
  simp only [bg]
  rw [List.take_append_of_le_length (by omega)]
theorem bg_last (R : List (List Int)) (l : List Int) : bg (R ++ [l]) (R.length + 1) = R.flatten.length + l.length := by
  have := bg_end (R ++ [l])
  simp only [List.length_append, List.length_singleton, List.flatten_append, List.flatten_singleton] at this
  rw [show ((R.length : Int) + 1) = ((R.length + 1 : Nat) : Int) by omega, this]
  omega
/-- rows laid so far, and a piece of the next -/
def mRw (I : Nat → Int → Int) (R : List (List Int)) (l : List Int) : Nat → Int → Int := fun x =>
  if x = 374 then wr (I 374) 0 (R.flatten ++ l) else if x = 373 then (fun j => if 0 ≤ j ∧ j ≤ R.length then bg R j else I 373 j) else fun j => if x = 360 ∧ j = 23 then (R.length : Int) else I x j
theorem mRw_rows (I : Nat → Int → Int) (R : List (List Int)) (l : List Int) : mRw I R l 360 23 = R.length := by simp [mRw]
theorem mRw_f (I : Nat → Int → Int) (R : List (List Int)) (l : List Int) {j : Int} (h : j ≠ 23) : mRw I R l 360 j = I 360 j := by simp [mRw, h]
theorem mRw_a (I : Nat → Int → Int) (R : List (List Int)) (l : List Int) {x : Nat} (h : x ≠ 360) (h1 : x ≠ 374) (h2 : x ≠ 373) : mRw I R l x = I x := by funext j; simp [mRw, h, h1, h2]
theorem mRw_373 (I : Nat → Int → Int) (R : List (List Int)) (l : List Int) : mRw I R l 373 = (fun j : Int => if 0 ≤ j ∧ j ≤ R.length then bg R j else I 373 j) := by funext j; simp [mRw]
theorem mRw_b (I : Nat → Int → Int) (R : List (List Int)) (l : List Int) {j : Int} (h : 0 ≤ j ∧ j ≤ R.length) : mRw I R l 373 j = bg R j := by rw [mRw_373]; exact if_pos h
theorem mRw_put (I : Nat → Int → Int) (R : List (List Int)) (l : List Int) (v : Int) : rr_u2 (mRw I R l) 374 ((R.flatten.length : Int) + l.length) v = mRw I R (l ++ [v]) := by
  apply rr_u2_eq
  intro x j
  by_cases hx : x = 374
  · subst hx
    have : mRw I R (l ++ [v]) 374 = upA (wr (I 374) 0 (R.flatten ++ l)) (0 + ((R.flatten ++ l).length : Nat)) v := by
      simp only [mRw, if_true]
      rw [← List.append_assoc, wr_snoc]
    rw [this]
    simp only [rr_u2, upA, mRw, if_true, List.length_append]
    by_cases hj : j = (R.flatten.length : Int) + l.length
    · rw [if_pos ⟨trivial, hj⟩, if_pos (by omega)]
    · rw [if_neg (fun q => hj q.2), if_neg (by omega)]
  · rw [rr_u2_ne _ _ (fun q => hx q.1)]
    simp only [mRw, if_neg hx]
theorem mRw_close (I : Nat → Int → Int) (R : List (List Int)) (l : List Int) : rr_u2 (rr_u2 (mRw I R l) 360 23 ((R.length : Int) + 1)) 373 ((R.length : Int) + 1) ((R.flatten.length : Int) + l.length) = mRw I (R ++ [l]) [] := by
  apply rr_u2_eq
  intro x j
  by_cases hx : x = 374
  · subst hx
    rw [rr_u2_ne _ _ (by omega), rr_u2_ne _ _ (by omega)]
    simp [mRw]
  · by_cases hy : x = 373
    · subst hy
      rw [mRw_373]
      by_cases hj : j = (R.length : Int) + 1
      · rw [hj, rr_u2_same]
        dsimp only
        rw [if_pos (by simp; omega), bg_last]
      · rw [rr_u2_ne _ _ (fun q => hj q.2), rr_u2_ne _ _ (by omega), mRw_373]
        dsimp only
        by_cases h2 : 0 ≤ j ∧ j ≤ R.length
        · rw [if_pos h2, if_pos (by simp; omega), bg_snoc R l h2.2]
        · rw [if_neg h2, if_neg (by simp; omega)]
    · rw [rr_u2_ne _ _ (fun q => hy q.1)]
      simp only [rr_u2, mRw, if_neg hx, if_neg hy]
      by_cases h3 : x = 360 ∧ j = 23
      · rw [if_pos h3, if_pos h3]; simp
      · rw [if_neg h3, if_neg h3, if_neg h3]
theorem c_laysRow {I : Nat → Int → Int} {R : List (List Int)} {w : Int} {left : Prop} [Decidable left] (hw : 0 ≤ w ∧ w < 28) (h4 : 0 ≤ I 360 4 ∧ I 360 4 ≤ 20) (h : RowOK I w) (hR : R.length < 24) (hR2 : R.flatten.length ≤ 10 * R.length) : mC yX4_laysRow cX4_laysRow 6 none 0 [vR (some 360), vI w, vI (bi left)] (mRw I R []) none (mRw I (R ++ [rowL I w left]) []) := by
  have hw1 := h.1
  have hz := bi_01 left
  refine mC.of (by decide) rfl (Nat.le_of_ble_eq_true rfl) (fun G nx => ?_)
  refine x_ls (ls2 := [some (vR (some 360)), some (vI w), some (vI (bi left)), none, none, none]) rfl ?_
  refine x_aload_n dX4_laysRow_0 rfl ?_
  refine m_getA (kf := 21) 21 (a := 373) (by decide) rfl rfl q2136 rfl rfl dX4_laysRow_1 ?_
  refine x_aload_n dX4_laysRow_4 rfl ?_
  refine m_getI (kf := 23) 23 (by decide) rfl rfl q2138 rfl dX4_laysRow_5 ?_
  rw [mRw_rows]
  refine m_iald (n := 25) rfl rfl (by decide) (by omega) dX4_laysRow_8 ?_
  rw [mRw_b I R [] (by omega), bg_end]
  refine x_istore_n dX4_laysRow_9 (by decide) ?_
  refine x_iconst dX4_laysRow_10 ?_
  refine x_istore dX4_laysRow_11 (by decide) ?_
  refine x_loc (ls2 := [some (vR (some 360)), some (vI w), some (vI (bi left)), some (vI ((R.flatten.length : Int) + (rowS I w left 0).length)), some (vI ((0 : Nat) : Int)), none]) (by simp only [rowS, List.length_nil]; exact (by repeat first | exact trivial | refine ⟨Or.inr rfl, ?_⟩ | refine ⟨Or.inl rfl, ?_⟩)) ?_
  refine x_h (h2 := mh (mRw I R (rowS I w left 0))) rfl ?_
  refine rr_ind (W := fun k : Nat => mm G yX4_laysRow cX4_laysRow 6 none 0 nx _ _ 13 [some (vR (some 360)), some (vI w), some (vI (bi left)), some (vI ((R.flatten.length : Int) + (rowS I w left k).length)), some (vI (k : Int)), none] [] (mRw I R (rowS I w left k))) (fun k => (I 365 w).toNat - k) (fun k => k ≤ (I 365 w).toNat) ?_ 0 (by omega)
  intro k hk ih
  have hl := rowS_len I w left k
  have e365 := mRw_a I R (rowS I w left k) (x := 365) (by decide) (by decide) (by decide)
  have e366 := mRw_a I R (rowS I w left k) (x := 366) (by decide) (by decide) (by decide)
  have e371 := mRw_a I R (rowS I w left k) (x := 371) (by decide) (by decide) (by decide)
  have hstep : rowS I w left (k + 1) = rowS I w left k ++ (if plc I w left k = -1 then [] else [I 371 (plc I w left k)]) := rfl
  have hpl : (k : Int) < I 365 w → -1 ≤ plc I w left k ∧ plc I w left k < I 360 4 := fun q => by
    unfold plc
    split
    · exact h.2.1 _ (by omega) (by omega)
    · exact h.2.1 _ (by omega) (by omega)
  refine x_iload dX4_laysRow_13 rfl ?_
  refine x_aload_n dX4_laysRow_15 rfl ?_
  refine m_getA (kf := 10) 10 (a := 365) (by decide) rfl rfl q2125 rfl rfl dX4_laysRow_16 ?_
  refine x_iload_n dX4_laysRow_19 rfl ?_
  refine m_iald (n := 28) rfl rfl (by decide) (by omega) dX4_laysRow_20 ?_
  rw [e365]
  refine x_icmp_ge (t := 84) dX4_laysRow_21 (by decide) (by omega) (fun c_21 => ?_) (fun c_21 => ?_)
  · skip
    have hk2 : k = (I 365 w).toNat := by omega
    refine x_aload_n dX4_laysRow_84 rfl ?_
    refine x_dup dX4_laysRow_85 rfl ?_
    refine m_getI (kf := 23) 23 (by decide) rfl rfl q2138 rfl dX4_laysRow_86 ?_
    rw [mRw_rows]
    refine x_iconst dX4_laysRow_89 ?_
    refine x_iadd dX4_laysRow_90 ?_
    refine m_putI (kf := 23) 23 (by decide) rfl rfl q2138 rfl rfl (rr_nar_i _) dX4_laysRow_91 ?_
    refine x_aload_n dX4_laysRow_94 rfl ?_
    refine m_getA (kf := 21) 21 (a := 373) (by decide) rfl rfl q2136 rfl rfl dX4_laysRow_95 ?_
    refine x_aload_n dX4_laysRow_98 rfl ?_
    refine m_getI (kf := 23) 23 (by decide) rfl rfl q2138 rfl dX4_laysRow_99 ?_
    rw [rr_u2_same]
    refine x_iload_n dX4_laysRow_102 rfl ?_
    refine m_iast (n := 25) rfl rfl (by decide) (by omega) dX4_laysRow_103 ?_
    refine x_vret rfl dX4_laysRow_104 (Nat.le_refl _) (Nat.le_refl _) ?_
    refine ⟨rfl, ?_, rfl⟩
    rw [mRw_close, hk2]
    rfl
  · skip
    refine x_aload_n dX4_laysRow_24 rfl ?_
    refine m_getA (kf := 11) 11 (a := 366) (by decide) rfl rfl q2126 rfl rfl dX4_laysRow_25 ?_
    refine x_bipush dX4_laysRow_28 (by decide) ?_
    refine x_iload_n dX4_laysRow_30 rfl ?_
    refine x_imul dX4_laysRow_31 ?_
    refine x_iload_n dX4_laysRow_32 rfl ?_
    refine x_if_eq (t := 50) dX4_laysRow_33 (by decide) (by omega) (fun c_33 => ?_) (fun c_33 => ?_)
    · skip
      have hno : ¬ left := fun q => by rw [bi_t q] at c_33; omega
      refine x_iload dX4_laysRow_50 rfl ?_
      refine x_iadd dX4_laysRow_52 ?_
      refine m_iald (n := 280) rfl rfl (by decide) (by omega) dX4_laysRow_53 ?_
      rw [e366]
      refine x_top (plc I w left k) (by unfold plc; first | rw [if_pos hyes] | rw [if_neg hno]) ?_
      have hpl := hpl (by omega)
      refine x_istore dX4_laysRow_54 (by decide) ?_
      refine x_iload dX4_laysRow_56 rfl ?_
      refine x_iconst dX4_laysRow_58 ?_
      refine x_icmp_eq (t := 78) dX4_laysRow_59 (by decide) (by omega) (fun c_59 => ?_) (fun c_59 => ?_)
      · skip
        rw [if_pos c_59, List.append_nil] at hstep
        have hgo := ih (k + 1) (by omega) (by omega)
        rw [hstep] at hgo
        refine x_iinc dX4_laysRow_78 rfl (by decide) ?_
        refine x_goto (t := 13) dX4_laysRow_81 (by decide) ?_
        exact x_loc (by rw [show ((k + 1 : Nat) : Int) = (k : Int) + 1 by omega]; first | exact (by repeat first | exact trivial | refine ⟨Or.inr rfl, ?_⟩ | refine ⟨Or.inl rfl, ?_⟩) | (rw [show (R.flatten.length : Int) + (((rowS I w left k).length + 1 : Nat) : Int) = (R.flatten.length : Int) + (rowS I w left k).length + 1 by omega]; exact (by repeat first | exact trivial | refine ⟨Or.inr rfl, ?_⟩ | refine ⟨Or.inl rfl, ?_⟩))) hgo
      · skip
        rw [if_neg c_59] at hstep
        have hgo := ih (k + 1) (by omega) (by omega)
        rw [hstep, List.length_append, List.length_singleton] at hgo
        refine x_aload_n dX4_laysRow_62 rfl ?_
        refine m_getA (kf := 22) 22 (a := 374) (by decide) rfl rfl q2137 rfl rfl dX4_laysRow_63 ?_
        refine x_iload_n dX4_laysRow_66 rfl ?_
        refine x_aload_n dX4_laysRow_67 rfl ?_
        refine m_getA (kf := 18) 18 (a := 371) (by decide) rfl rfl q2133 rfl rfl dX4_laysRow_68 ?_
        refine x_iload dX4_laysRow_71 rfl ?_
        refine m_iald (n := 20) rfl rfl (by decide) (by omega) dX4_laysRow_73 ?_
        rw [e371]
        refine m_iast (n := 240) rfl rfl (by decide) (by omega) dX4_laysRow_74 ?_
        rw [mRw_put]
        refine x_iinc dX4_laysRow_75 rfl (by decide) ?_
        refine x_iinc dX4_laysRow_78 rfl (by decide) ?_
        refine x_goto (t := 13) dX4_laysRow_81 (by decide) ?_
        exact x_loc (by rw [show ((k + 1 : Nat) : Int) = (k : Int) + 1 by omega]; first | exact (by repeat first | exact trivial | refine ⟨Or.inr rfl, ?_⟩ | refine ⟨Or.inl rfl, ?_⟩) | (rw [show (R.flatten.length : Int) + (((rowS I w left k).length + 1 : Nat) : Int) = (R.flatten.length : Int) + (rowS I w left k).length + 1 by omega]; exact (by repeat first | exact trivial | refine ⟨Or.inr rfl, ?_⟩ | refine ⟨Or.inl rfl, ?_⟩))) hgo
    · skip
      have hyes : left := Classical.byContradiction fun q => c_33 (bi_f q)
      refine x_aload_n dX4_laysRow_36 rfl ?_
      refine m_getA (kf := 10) 10 (a := 365) (by decide) rfl rfl q2125 rfl rfl dX4_laysRow_37 ?_
      refine x_iload_n dX4_laysRow_40 rfl ?_
      refine m_iald (n := 28) rfl rfl (by decide) (by omega) dX4_laysRow_41 ?_
      rw [e365]
      refine x_iconst dX4_laysRow_42 ?_
      refine x_isub dX4_laysRow_43 ?_
      refine x_iload dX4_laysRow_44 rfl ?_
      refine x_isub dX4_laysRow_46 ?_
      refine x_goto (t := 52) dX4_laysRow_47 (by decide) ?_
      refine x_iadd dX4_laysRow_52 ?_
      refine m_iald (n := 280) rfl rfl (by decide) (by omega) dX4_laysRow_53 ?_
      rw [e366]
      refine x_top (plc I w left k) (by unfold plc; first | rw [if_pos hyes] | rw [if_neg hno]) ?_
      have hpl := hpl (by omega)
      refine x_istore dX4_laysRow_54 (by decide) ?_
      refine x_iload dX4_laysRow_56 rfl ?_
      refine x_iconst dX4_laysRow_58 ?_
      refine x_icmp_eq (t := 78) dX4_laysRow_59 (by decide) (by omega) (fun c_59 => ?_) (fun c_59 => ?_)
      · skip
        rw [if_pos c_59, List.append_nil] at hstep
        have hgo := ih (k + 1) (by omega) (by omega)
        rw [hstep] at hgo
        refine x_iinc dX4_laysRow_78 rfl (by decide) ?_
        refine x_goto (t := 13) dX4_laysRow_81 (by decide) ?_
        exact x_loc (by rw [show ((k + 1 : Nat) : Int) = (k : Int) + 1 by omega]; first | exact (by repeat first | exact trivial | refine ⟨Or.inr rfl, ?_⟩ | refine ⟨Or.inl rfl, ?_⟩) | (rw [show (R.flatten.length : Int) + (((rowS I w left k).length + 1 : Nat) : Int) = (R.flatten.length : Int) + (rowS I w left k).length + 1 by omega]; exact (by repeat first | exact trivial | refine ⟨Or.inr rfl, ?_⟩ | refine ⟨Or.inl rfl, ?_⟩))) hgo
      · skip
        rw [if_neg c_59] at hstep
        have hgo := ih (k + 1) (by omega) (by omega)
        rw [hstep, List.length_append, List.length_singleton] at hgo
        refine x_aload_n dX4_laysRow_62 rfl ?_
        refine m_getA (kf := 22) 22 (a := 374) (by decide) rfl rfl q2137 rfl rfl dX4_laysRow_63 ?_
        refine x_iload_n dX4_laysRow_66 rfl ?_
        refine x_aload_n dX4_laysRow_67 rfl ?_
        refine m_getA (kf := 18) 18 (a := 371) (by decide) rfl rfl q2133 rfl rfl dX4_laysRow_68 ?_
        refine x_iload dX4_laysRow_71 rfl ?_
        refine m_iald (n := 20) rfl rfl (by decide) (by omega) dX4_laysRow_73 ?_
        rw [e371]
        refine m_iast (n := 240) rfl rfl (by decide) (by omega) dX4_laysRow_74 ?_
        rw [mRw_put]
        refine x_iinc dX4_laysRow_75 rfl (by decide) ?_
        refine x_iinc dX4_laysRow_78 rfl (by decide) ?_
        refine x_goto (t := 13) dX4_laysRow_81 (by decide) ?_
        exact x_loc (by rw [show ((k + 1 : Nat) : Int) = (k : Int) + 1 by omega]; first | exact (by repeat first | exact trivial | refine ⟨Or.inr rfl, ?_⟩ | refine ⟨Or.inl rfl, ?_⟩) | (rw [show (R.flatten.length : Int) + (((rowS I w left k).length + 1 : Nat) : Int) = (R.flatten.length : Int) + (rowS I w left k).length + 1 by omega]; exact (by repeat first | exact trivial | refine ⟨Or.inr rfl, ?_⟩ | refine ⟨Or.inl rfl, ?_⟩))) hgo
/-- the rows of the first t stones, and the first r of the next one -/
abbrev toLeft (by_ : Int) (r : Nat) : Prop := by_ = 1 ∨ (by_ = 2 ∧ (r : Int) % 2 = 1)
def rowsT (I : Nat → Int → Int) (by_ : Int) (t : Nat) : List (List Int) := (List.range (I 364 t).toNat).map (fun r : Nat => rowL I (4 * (t : Int) + (r : Int)) (toLeft by_ r))
def rowsTo (I : Nat → Int → Int) (by_ : Int) : Nat → List (List Int)
  | 0 => []
  | t + 1 => rowsTo I by_ t ++ rowsT I by_ t
theorem rowL_len {I : Nat → Int → Int} {w : Int} (h : RowOK I w) (left : Prop) [Decidable left] : (rowL I w left).length ≤ 10 := by
  have := rowS_len I w left (I 365 w).toNat
  have := h.1
  unfold rowL
  omega
def way (I : Nat → Int → Int) : Prop := 0 ≤ I 369 1 ∧ I 369 1 ≤ 3
noncomputable def m_by (I : Nat → Int → Int) : Int := if I 369 1 = 3 then m_judged I else I 369 1
noncomputable def m_rows (I : Nat → Int → Int) : List (List Int) := rowsTo I (m_by I) (I 360 8).toNat

theorem flat10 {R : List (List Int)} (h : ∀ l ∈ R, l.length ≤ 10) : R.flatten.length ≤ 10 * R.length := by
  induction R with
  | nil => simp
  | cons a R ih =>
    have h1 := h a List.mem_cons_self
    have h2 := ih (fun l hl => h l (List.mem_cons_of_mem _ hl))
    simp only [List.flatten_cons, List.length_append, List.length_cons]
    omega
theorem rowsT_len (I : Nat → Int → Int) (b : Int) (t : Nat) : (rowsT I b t).length = (I 364 t).toNat := by simp [rowsT]
theorem rowsT_ok {I : Nat → Int → Int} (h : StOK I) (b : Int) {t : Nat} (ht : (t : Int) < I 360 8) : ∀ l ∈ rowsT I b t, l.length ≤ 10 := by
  intro l hl
  simp only [rowsT, List.mem_map, List.mem_range] at hl
  obtain ⟨r, hr, rfl⟩ := hl
  exact rowL_len ((h.2.2 t (by omega) ht).2 r (by omega) (by omega)) _
theorem rowsTo_ok {I : Nat → Int → Int} (h : StOK I) (b : Int) : ∀ t : Nat, (t : Int) ≤ I 360 8 → (rowsTo I b t).length ≤ 4 * t ∧ ∀ l ∈ rowsTo I b t, l.length ≤ 10 := by
  intro t
  induction t with
  | zero => intro _; simp [rowsTo]
  | succ t ih =>
    intro ht
    obtain ⟨h1, h2⟩ := ih (by omega)
    have h3 := h.2.2 t (by omega) (by omega)
    have h4 := rowsT_len I b t
    simp only [rowsTo, List.length_append, List.mem_append]
    exact ⟨by omega, fun l hl => hl.elim (h2 l) (rowsT_ok h b (by omega) l)⟩
theorem mRw_0 (I : Nat → Int → Int) : rr_u2 (rr_u2 I 360 23 0) 373 0 0 = mRw I [] [] := by
  apply rr_u2_eq
  intro x j
  by_cases hx : x = 374
  · subst hx; simp [rr_u2, mRw, wr_nil]
  · by_cases hy : x = 373
    · subst hy
      rw [mRw_373]
      simp only [rr_u2]
      by_cases hj : j = 0
      · subst hj; simp [bg]
      · simp [hj]
        intro h1 h2
        omega
    · simp only [mRw, rr_u2, if_neg hx, if_neg hy]
      rw [if_neg (fun q => hy q.1)]
      rfl
theorem c_laysRows {I : Nat → Int → Int} (h : StOK I) (hw : way I) : mC yX4_laysRows cX4_laysRows 5 none 3 [vR (some 360)] I none (mRw I (m_rows I) []) := by
  have h8 := h.1
  have h4 := h.2.1
  have hwy := hw.1
  have hwy2 := hw.2
  have hj := m_judged_01 I
  have hby : m_by I = 0 ∨ m_by I = 1 ∨ m_by I = 2 := by unfold m_by; split <;> omega
  refine mC.of (by decide) rfl (Nat.le_of_ble_eq_true rfl) (fun G nx => ?_)
  refine x_ls (ls2 := [some (vR (some 360)), none, none, none, none]) rfl ?_
  refine x_aload_n dX4_laysRows_0 rfl ?_
  refine m_getA (kf := 15) 15 (a := 369) (by decide) rfl rfl q2130 rfl rfl dX4_laysRows_1 ?_
  refine x_iconst dX4_laysRows_4 ?_
  refine m_iald (n := 460) rfl rfl (by decide) (by omega) dX4_laysRows_5 ?_
  refine x_iconst dX4_laysRows_6 ?_
  refine x_icmp_ne (t := 17) dX4_laysRows_7 (by decide) (by omega) (fun c_7 => ?_) (fun c_7 => ?_)
  · skip
    refine x_aload_n dX4_laysRows_17 rfl ?_
    refine m_getA (kf := 15) 15 (a := 369) (by decide) rfl rfl q2130 rfl rfl dX4_laysRows_18 ?_
    refine x_iconst dX4_laysRows_21 ?_
    refine m_iald (n := 460) rfl rfl (by decide) (by omega) dX4_laysRows_22 ?_
    refine x_top (m_by I) (by unfold m_by; first | rw [if_pos (by assumption)] | rw [if_neg (by assumption)]) ?_
    refine x_istore_n dX4_laysRows_23 (by decide) ?_
    refine x_aload_n dX4_laysRows_24 rfl ?_
    refine x_iconst dX4_laysRows_25 ?_
    refine m_putI (kf := 23) 23 (by decide) rfl rfl q2138 rfl rfl (rr_nar_i _) dX4_laysRows_26 ?_
    refine x_aload_n dX4_laysRows_29 rfl ?_
    refine m_getA (kf := 21) 21 (a := 373) (by decide) rfl rfl q2136 rfl rfl dX4_laysRows_30 ?_
    refine x_iconst dX4_laysRows_33 ?_
    refine x_iconst dX4_laysRows_34 ?_
    refine m_iast (n := 25) rfl rfl (by decide) (by omega) dX4_laysRows_35 ?_
    refine x_iconst dX4_laysRows_36 ?_
    refine x_istore_n dX4_laysRows_37 (by decide) ?_
    rw [mRw_0]
    unfold m_rows
    generalize m_by I = b at *
    refine x_h (h2 := mh (mRw I (rowsTo I b 0) [])) rfl ?_
    refine x_loc (ls2 := [some (vR (some 360)), some (vI b), some (vI ((0 : Nat) : Int)), none, none]) (by repeat first | exact trivial | refine ⟨Or.inr rfl, ?_⟩ | refine ⟨Or.inl rfl, ?_⟩) ?_
    refine rr_ind (W := fun t : Nat => mm G yX4_laysRows cX4_laysRows 5 none 3 nx _ _ 38 [some (vR (some 360)), some (vI b), some (vI (t : Int)), none, none] [] (mRw I (rowsTo I b t) [])) (fun t => (I 360 8).toNat - t) (fun t => t ≤ (I 360 8).toNat) ?_ 0 (by omega)
    intro t ht ih
    have e8 := mRw_f I (rowsTo I b t) [] (j := 8) (by decide)
    have hto := rowsTo_ok h b t (by omega)
    refine x_iload_n dX4_laysRows_38 rfl ?_
    refine x_aload_n dX4_laysRows_39 rfl ?_
    refine m_getI (kf := 8) 8 (by decide) rfl rfl q2123 rfl dX4_laysRows_40 ?_
    rw [e8]
    refine x_icmp_ge (t := 105) dX4_laysRows_43 (by decide) (by omega) (fun c_43 => ?_) (fun c_43 => ?_)
    · skip
      have ht2 : t = (I 360 8).toNat := by omega
      subst ht2
      refine x_vret rfl dX4_laysRows_105 (Nat.le_refl _) (Nat.le_refl _) ?_
      exact ⟨rfl, rfl, rfl⟩
    · skip
      refine x_iconst dX4_laysRows_46 ?_
      refine x_istore_n dX4_laysRows_47 (by decide) ?_
      have hst := h.2.2 t (by omega) (by omega)
      have hr4 := hst.1
      have hlen := rowsT_len I b t
      refine x_h (h2 := mh (mRw I (rowsTo I b t ++ (rowsT I b t).take 0) [])) (by rw [List.take_zero, List.append_nil]) ?_
      refine x_loc (ls2 := [some (vR (some 360)), some (vI b), some (vI (t : Int)), some (vI ((0 : Nat) : Int)), none]) (by repeat first | exact trivial | refine ⟨Or.inr rfl, ?_⟩ | refine ⟨Or.inl rfl, ?_⟩) ?_
      refine rr_ind (W := fun r : Nat => mm G yX4_laysRows cX4_laysRows 5 none 3 nx _ _ 48 [some (vR (some 360)), some (vI b), some (vI (t : Int)), some (vI (r : Int)), none] [] (mRw I (rowsTo I b t ++ (rowsT I b t).take r) [])) (fun r => (I 364 t).toNat - r) (fun r => r ≤ (I 364 t).toNat) ?_ 0 (by omega)
      intro r hr ih2
      have e364 := mRw_a I (rowsTo I b t ++ (rowsT I b t).take r) [] (x := 364) (by decide) (by decide) (by decide)
      have hnext : (r : Int) < I 364 t → rowsTo I b t ++ (rowsT I b t).take r ++ [rowL I (4 * (t : Int) + r) (toLeft b r)] = rowsTo I b t ++ (rowsT I b t).take (r + 1) := fun q => by
        rw [List.append_assoc, List.take_succ]
        congr 2
        rw [show (rowsT I b t)[r]? = some (rowL I (4 * (t : Int) + r) (toLeft b r)) from by simp [rowsT, show r < (I 364 t).toNat by omega]]
        rfl
      have hall : ∀ l ∈ rowsTo I b t ++ (rowsT I b t).take r, l.length ≤ 10 := fun l hl => by
        rcases List.mem_append.mp hl with q | q
        · exact hto.2 l q
        · exact rowsT_ok h b (by omega) l (List.mem_of_mem_take q)
      have hfl := flat10 hall
      have hll : (rowsTo I b t ++ (rowsT I b t).take r).length ≤ 4 * t + r := by
        rw [List.length_append, List.length_take]
        have := hto.1
        omega
      refine x_iload_n dX4_laysRows_48 rfl ?_
      refine x_aload_n dX4_laysRows_49 rfl ?_
      refine m_getA (kf := 9) 9 (a := 364) (by decide) rfl rfl q2124 rfl rfl dX4_laysRows_50 ?_
      refine x_iload_n dX4_laysRows_53 rfl ?_
      refine m_iald (n := 7) rfl rfl (by decide) (by omega) dX4_laysRows_54 ?_
      rw [e364]
      refine x_icmp_ge (t := 99) dX4_laysRows_55 (by decide) (by omega) (fun c_55 => ?_) (fun c_55 => ?_)
      · skip
        have hr2 : r = (I 364 t).toNat := by omega
        have hgo := ih (t + 1) (by omega) (by omega)
        refine x_iinc dX4_laysRows_99 rfl (by decide) ?_
        refine x_goto (t := 38) dX4_laysRows_102 (by decide) ?_
        refine x_h (h2 := mh (mRw I (rowsTo I b (t + 1)) [])) (by rw [hr2, ← hlen, List.take_length]; rfl) ?_
        exact x_loc (by rw [show ((t + 1 : Nat) : Int) = (t : Int) + 1 by omega]; exact (by repeat first | exact trivial | refine ⟨Or.inr rfl, ?_⟩ | refine ⟨Or.inl rfl, ?_⟩)) hgo
      · skip
        refine x_iload_n dX4_laysRows_58 rfl ?_
        refine x_iconst dX4_laysRows_59 ?_
        refine x_icmp_eq (t := 75) dX4_laysRows_60 (by decide) (by omega) (fun c_60 => ?_) (fun c_60 => ?_)
        · skip
          refine x_iconst dX4_laysRows_75 ?_
          refine x_goto (t := 80) dX4_laysRows_76 (by decide) ?_
          refine x_top (bi (toLeft b r)) (by first | exact (bi_t (by omega)).symm | exact (bi_f (by omega)).symm) ?_
          refine x_istore dX4_laysRows_80 (by decide) ?_
          refine x_aload_n dX4_laysRows_82 rfl ?_
          refine x_iconst dX4_laysRows_83 ?_
          refine x_iload_n dX4_laysRows_84 rfl ?_
          refine x_imul dX4_laysRows_85 ?_
          refine x_iload_n dX4_laysRows_86 rfl ?_
          refine x_iadd dX4_laysRows_87 ?_
          refine x_iload dX4_laysRows_88 rfl ?_
          refine m_cw2 (c_laysRow (left := toLeft b r) (by omega) h4 (hst.2 r (by omega) (by omega)) (by omega) hfl) fX4_laysRow q2443 (by decide) (Nat.le_of_ble_eq_true rfl) dX4_laysRows_90 ?_
          rw [hnext (by omega)]
          refine x_iinc dX4_laysRows_93 rfl (by decide) ?_
          refine x_goto (t := 48) dX4_laysRows_96 (by decide) ?_
          exact x_loc (by rw [show ((r + 1 : Nat) : Int) = (r : Int) + 1 by omega]; exact (by repeat first | exact trivial | refine ⟨Or.inr rfl, ?_⟩ | refine ⟨Or.inl rfl, ?_⟩)) (ih2 (r + 1) (by omega) (by omega))
        · skip
          refine x_iload_n dX4_laysRows_63 rfl ?_
          refine x_iconst dX4_laysRows_64 ?_
          refine x_icmp_ne (t := 79) dX4_laysRows_65 (by decide) (by omega) (fun c_65 => ?_) (fun c_65 => ?_)
          · skip
            refine x_iconst dX4_laysRows_79 ?_
            refine x_top (bi (toLeft b r)) (by first | exact (bi_t (by omega)).symm | exact (bi_f (by omega)).symm) ?_
            refine x_istore dX4_laysRows_80 (by decide) ?_
            refine x_aload_n dX4_laysRows_82 rfl ?_
            refine x_iconst dX4_laysRows_83 ?_
            refine x_iload_n dX4_laysRows_84 rfl ?_
            refine x_imul dX4_laysRows_85 ?_
            refine x_iload_n dX4_laysRows_86 rfl ?_
            refine x_iadd dX4_laysRows_87 ?_
            refine x_iload dX4_laysRows_88 rfl ?_
            refine m_cw2 (c_laysRow (left := toLeft b r) (by omega) h4 (hst.2 r (by omega) (by omega)) (by omega) hfl) fX4_laysRow q2443 (by decide) (Nat.le_of_ble_eq_true rfl) dX4_laysRows_90 ?_
            rw [hnext (by omega)]
            refine x_iinc dX4_laysRows_93 rfl (by decide) ?_
            refine x_goto (t := 48) dX4_laysRows_96 (by decide) ?_
            exact x_loc (by rw [show ((r + 1 : Nat) : Int) = (r : Int) + 1 by omega]; exact (by repeat first | exact trivial | refine ⟨Or.inr rfl, ?_⟩ | refine ⟨Or.inl rfl, ?_⟩)) (ih2 (r + 1) (by omega) (by omega))
          · skip
            refine x_iload_n dX4_laysRows_68 rfl ?_
            refine x_iconst dX4_laysRows_69 ?_
            refine x_irem dX4_laysRows_70 (by omega) (by omega) ?_
            refine x_iconst dX4_laysRows_71 ?_
            refine x_icmp_ne (t := 79) dX4_laysRows_72 (by decide) (by omega) (fun c_72 => ?_) (fun c_72 => ?_)
            · skip
              refine x_iconst dX4_laysRows_79 ?_
              refine x_top (bi (toLeft b r)) (by first | exact (bi_t (by omega)).symm | exact (bi_f (by omega)).symm) ?_
              refine x_istore dX4_laysRows_80 (by decide) ?_
              refine x_aload_n dX4_laysRows_82 rfl ?_
              refine x_iconst dX4_laysRows_83 ?_
              refine x_iload_n dX4_laysRows_84 rfl ?_
              refine x_imul dX4_laysRows_85 ?_
              refine x_iload_n dX4_laysRows_86 rfl ?_
              refine x_iadd dX4_laysRows_87 ?_
              refine x_iload dX4_laysRows_88 rfl ?_
              refine m_cw2 (c_laysRow (left := toLeft b r) (by omega) h4 (hst.2 r (by omega) (by omega)) (by omega) hfl) fX4_laysRow q2443 (by decide) (Nat.le_of_ble_eq_true rfl) dX4_laysRows_90 ?_
              rw [hnext (by omega)]
              refine x_iinc dX4_laysRows_93 rfl (by decide) ?_
              refine x_goto (t := 48) dX4_laysRows_96 (by decide) ?_
              exact x_loc (by rw [show ((r + 1 : Nat) : Int) = (r : Int) + 1 by omega]; exact (by repeat first | exact trivial | refine ⟨Or.inr rfl, ?_⟩ | refine ⟨Or.inl rfl, ?_⟩)) (ih2 (r + 1) (by omega) (by omega))
            · skip
              refine x_iconst dX4_laysRows_75 ?_
              refine x_goto (t := 80) dX4_laysRows_76 (by decide) ?_
              refine x_top (bi (toLeft b r)) (by first | exact (bi_t (by omega)).symm | exact (bi_f (by omega)).symm) ?_
              refine x_istore dX4_laysRows_80 (by decide) ?_
              refine x_aload_n dX4_laysRows_82 rfl ?_
              refine x_iconst dX4_laysRows_83 ?_
              refine x_iload_n dX4_laysRows_84 rfl ?_
              refine x_imul dX4_laysRows_85 ?_
              refine x_iload_n dX4_laysRows_86 rfl ?_
              refine x_iadd dX4_laysRows_87 ?_
              refine x_iload dX4_laysRows_88 rfl ?_
              refine m_cw2 (c_laysRow (left := toLeft b r) (by omega) h4 (hst.2 r (by omega) (by omega)) (by omega) hfl) fX4_laysRow q2443 (by decide) (Nat.le_of_ble_eq_true rfl) dX4_laysRows_90 ?_
              rw [hnext (by omega)]
              refine x_iinc dX4_laysRows_93 rfl (by decide) ?_
              refine x_goto (t := 48) dX4_laysRows_96 (by decide) ?_
              exact x_loc (by rw [show ((r + 1 : Nat) : Int) = (r : Int) + 1 by omega]; exact (by repeat first | exact trivial | refine ⟨Or.inr rfl, ?_⟩ | refine ⟨Or.inl rfl, ?_⟩)) (ih2 (r + 1) (by omega) (by omega))
  · skip
    refine x_aload_n dX4_laysRows_10 rfl ?_
    refine m_cv0 (c_judgedWay (by assumption)) fX4_judgedWay q2426 (by decide) (Nat.le_of_ble_eq_true rfl) dX4_laysRows_11 ?_
    refine x_goto (t := 23) dX4_laysRows_14 (by decide) ?_
    refine x_top (m_by I) (by unfold m_by; first | rw [if_pos (by assumption)] | rw [if_neg (by assumption)]) ?_
    refine x_istore_n dX4_laysRows_23 (by decide) ?_
    refine x_aload_n dX4_laysRows_24 rfl ?_
    refine x_iconst dX4_laysRows_25 ?_
    refine m_putI (kf := 23) 23 (by decide) rfl rfl q2138 rfl rfl (rr_nar_i _) dX4_laysRows_26 ?_
    refine x_aload_n dX4_laysRows_29 rfl ?_
    refine m_getA (kf := 21) 21 (a := 373) (by decide) rfl rfl q2136 rfl rfl dX4_laysRows_30 ?_
    refine x_iconst dX4_laysRows_33 ?_
    refine x_iconst dX4_laysRows_34 ?_
    refine m_iast (n := 25) rfl rfl (by decide) (by omega) dX4_laysRows_35 ?_
    refine x_iconst dX4_laysRows_36 ?_
    refine x_istore_n dX4_laysRows_37 (by decide) ?_
    rw [mRw_0]
    unfold m_rows
    generalize m_by I = b at *
    refine x_h (h2 := mh (mRw I (rowsTo I b 0) [])) rfl ?_
    refine x_loc (ls2 := [some (vR (some 360)), some (vI b), some (vI ((0 : Nat) : Int)), none, none]) (by repeat first | exact trivial | refine ⟨Or.inr rfl, ?_⟩ | refine ⟨Or.inl rfl, ?_⟩) ?_
    refine rr_ind (W := fun t : Nat => mm G yX4_laysRows cX4_laysRows 5 none 3 nx _ _ 38 [some (vR (some 360)), some (vI b), some (vI (t : Int)), none, none] [] (mRw I (rowsTo I b t) [])) (fun t => (I 360 8).toNat - t) (fun t => t ≤ (I 360 8).toNat) ?_ 0 (by omega)
    intro t ht ih
    have e8 := mRw_f I (rowsTo I b t) [] (j := 8) (by decide)
    have hto := rowsTo_ok h b t (by omega)
    refine x_iload_n dX4_laysRows_38 rfl ?_
    refine x_aload_n dX4_laysRows_39 rfl ?_
    refine m_getI (kf := 8) 8 (by decide) rfl rfl q2123 rfl dX4_laysRows_40 ?_
    rw [e8]
    refine x_icmp_ge (t := 105) dX4_laysRows_43 (by decide) (by omega) (fun c_43 => ?_) (fun c_43 => ?_)
    · skip
      have ht2 : t = (I 360 8).toNat := by omega
      subst ht2
      refine x_vret rfl dX4_laysRows_105 (Nat.le_refl _) (Nat.le_refl _) ?_
      exact ⟨rfl, rfl, rfl⟩
    · skip
      refine x_iconst dX4_laysRows_46 ?_
      refine x_istore_n dX4_laysRows_47 (by decide) ?_
      have hst := h.2.2 t (by omega) (by omega)
      have hr4 := hst.1
      have hlen := rowsT_len I b t
      refine x_h (h2 := mh (mRw I (rowsTo I b t ++ (rowsT I b t).take 0) [])) (by rw [List.take_zero, List.append_nil]) ?_
      refine x_loc (ls2 := [some (vR (some 360)), some (vI b), some (vI (t : Int)), some (vI ((0 : Nat) : Int)), none]) (by repeat first | exact trivial | refine ⟨Or.inr rfl, ?_⟩ | refine ⟨Or.inl rfl, ?_⟩) ?_
      refine rr_ind (W := fun r : Nat => mm G yX4_laysRows cX4_laysRows 5 none 3 nx _ _ 48 [some (vR (some 360)), some (vI b), some (vI (t : Int)), some (vI (r : Int)), none] [] (mRw I (rowsTo I b t ++ (rowsT I b t).take r) [])) (fun r => (I 364 t).toNat - r) (fun r => r ≤ (I 364 t).toNat) ?_ 0 (by omega)
      intro r hr ih2
      have e364 := mRw_a I (rowsTo I b t ++ (rowsT I b t).take r) [] (x := 364) (by decide) (by decide) (by decide)
      have hnext : (r : Int) < I 364 t → rowsTo I b t ++ (rowsT I b t).take r ++ [rowL I (4 * (t : Int) + r) (toLeft b r)] = rowsTo I b t ++ (rowsT I b t).take (r + 1) := fun q => by
        rw [List.append_assoc, List.take_succ]
        congr 2
        rw [show (rowsT I b t)[r]? = some (rowL I (4 * (t : Int) + r) (toLeft b r)) from by simp [rowsT, show r < (I 364 t).toNat by omega]]
        rfl
      have hall : ∀ l ∈ rowsTo I b t ++ (rowsT I b t).take r, l.length ≤ 10 := fun l hl => by
        rcases List.mem_append.mp hl with q | q
        · exact hto.2 l q
        · exact rowsT_ok h b (by omega) l (List.mem_of_mem_take q)
      have hfl := flat10 hall
      have hll : (rowsTo I b t ++ (rowsT I b t).take r).length ≤ 4 * t + r := by
        rw [List.length_append, List.length_take]
        have := hto.1
        omega
      refine x_iload_n dX4_laysRows_48 rfl ?_
      refine x_aload_n dX4_laysRows_49 rfl ?_
      refine m_getA (kf := 9) 9 (a := 364) (by decide) rfl rfl q2124 rfl rfl dX4_laysRows_50 ?_
      refine x_iload_n dX4_laysRows_53 rfl ?_
      refine m_iald (n := 7) rfl rfl (by decide) (by omega) dX4_laysRows_54 ?_
      rw [e364]
      refine x_icmp_ge (t := 99) dX4_laysRows_55 (by decide) (by omega) (fun c_55 => ?_) (fun c_55 => ?_)
      · skip
        have hr2 : r = (I 364 t).toNat := by omega
        have hgo := ih (t + 1) (by omega) (by omega)
        refine x_iinc dX4_laysRows_99 rfl (by decide) ?_
        refine x_goto (t := 38) dX4_laysRows_102 (by decide) ?_
        refine x_h (h2 := mh (mRw I (rowsTo I b (t + 1)) [])) (by rw [hr2, ← hlen, List.take_length]; rfl) ?_
        exact x_loc (by rw [show ((t + 1 : Nat) : Int) = (t : Int) + 1 by omega]; exact (by repeat first | exact trivial | refine ⟨Or.inr rfl, ?_⟩ | refine ⟨Or.inl rfl, ?_⟩)) hgo
      · skip
        refine x_iload_n dX4_laysRows_58 rfl ?_
        refine x_iconst dX4_laysRows_59 ?_
        refine x_icmp_eq (t := 75) dX4_laysRows_60 (by decide) (by omega) (fun c_60 => ?_) (fun c_60 => ?_)
        · skip
          refine x_iconst dX4_laysRows_75 ?_
          refine x_goto (t := 80) dX4_laysRows_76 (by decide) ?_
          refine x_top (bi (toLeft b r)) (by first | exact (bi_t (by omega)).symm | exact (bi_f (by omega)).symm) ?_
          refine x_istore dX4_laysRows_80 (by decide) ?_
          refine x_aload_n dX4_laysRows_82 rfl ?_
          refine x_iconst dX4_laysRows_83 ?_
          refine x_iload_n dX4_laysRows_84 rfl ?_
          refine x_imul dX4_laysRows_85 ?_
          refine x_iload_n dX4_laysRows_86 rfl ?_
          refine x_iadd dX4_laysRows_87 ?_
          refine x_iload dX4_laysRows_88 rfl ?_
          refine m_cw2 (c_laysRow (left := toLeft b r) (by omega) h4 (hst.2 r (by omega) (by omega)) (by omega) hfl) fX4_laysRow q2443 (by decide) (Nat.le_of_ble_eq_true rfl) dX4_laysRows_90 ?_
          rw [hnext (by omega)]
          refine x_iinc dX4_laysRows_93 rfl (by decide) ?_
          refine x_goto (t := 48) dX4_laysRows_96 (by decide) ?_
          exact x_loc (by rw [show ((r + 1 : Nat) : Int) = (r : Int) + 1 by omega]; exact (by repeat first | exact trivial | refine ⟨Or.inr rfl, ?_⟩ | refine ⟨Or.inl rfl, ?_⟩)) (ih2 (r + 1) (by omega) (by omega))
        · skip
          refine x_iload_n dX4_laysRows_63 rfl ?_
          refine x_iconst dX4_laysRows_64 ?_
          refine x_icmp_ne (t := 79) dX4_laysRows_65 (by decide) (by omega) (fun c_65 => ?_) (fun c_65 => ?_)
          · skip
            refine x_iconst dX4_laysRows_79 ?_
            refine x_top (bi (toLeft b r)) (by first | exact (bi_t (by omega)).symm | exact (bi_f (by omega)).symm) ?_
            refine x_istore dX4_laysRows_80 (by decide) ?_
            refine x_aload_n dX4_laysRows_82 rfl ?_
            refine x_iconst dX4_laysRows_83 ?_
            refine x_iload_n dX4_laysRows_84 rfl ?_
            refine x_imul dX4_laysRows_85 ?_
            refine x_iload_n dX4_laysRows_86 rfl ?_
            refine x_iadd dX4_laysRows_87 ?_
            refine x_iload dX4_laysRows_88 rfl ?_
            refine m_cw2 (c_laysRow (left := toLeft b r) (by omega) h4 (hst.2 r (by omega) (by omega)) (by omega) hfl) fX4_laysRow q2443 (by decide) (Nat.le_of_ble_eq_true rfl) dX4_laysRows_90 ?_
            rw [hnext (by omega)]
            refine x_iinc dX4_laysRows_93 rfl (by decide) ?_
            refine x_goto (t := 48) dX4_laysRows_96 (by decide) ?_
            exact x_loc (by rw [show ((r + 1 : Nat) : Int) = (r : Int) + 1 by omega]; exact (by repeat first | exact trivial | refine ⟨Or.inr rfl, ?_⟩ | refine ⟨Or.inl rfl, ?_⟩)) (ih2 (r + 1) (by omega) (by omega))
          · skip
            refine x_iload_n dX4_laysRows_68 rfl ?_
            refine x_iconst dX4_laysRows_69 ?_
            refine x_irem dX4_laysRows_70 (by omega) (by omega) ?_
            refine x_iconst dX4_laysRows_71 ?_
            refine x_icmp_ne (t := 79) dX4_laysRows_72 (by decide) (by omega) (fun c_72 => ?_) (fun c_72 => ?_)
            · skip
              refine x_iconst dX4_laysRows_79 ?_
              refine x_top (bi (toLeft b r)) (by first | exact (bi_t (by omega)).symm | exact (bi_f (by omega)).symm) ?_
              refine x_istore dX4_laysRows_80 (by decide) ?_
              refine x_aload_n dX4_laysRows_82 rfl ?_
              refine x_iconst dX4_laysRows_83 ?_
              refine x_iload_n dX4_laysRows_84 rfl ?_
              refine x_imul dX4_laysRows_85 ?_
              refine x_iload_n dX4_laysRows_86 rfl ?_
              refine x_iadd dX4_laysRows_87 ?_
              refine x_iload dX4_laysRows_88 rfl ?_
              refine m_cw2 (c_laysRow (left := toLeft b r) (by omega) h4 (hst.2 r (by omega) (by omega)) (by omega) hfl) fX4_laysRow q2443 (by decide) (Nat.le_of_ble_eq_true rfl) dX4_laysRows_90 ?_
              rw [hnext (by omega)]
              refine x_iinc dX4_laysRows_93 rfl (by decide) ?_
              refine x_goto (t := 48) dX4_laysRows_96 (by decide) ?_
              exact x_loc (by rw [show ((r + 1 : Nat) : Int) = (r : Int) + 1 by omega]; exact (by repeat first | exact trivial | refine ⟨Or.inr rfl, ?_⟩ | refine ⟨Or.inl rfl, ?_⟩)) (ih2 (r + 1) (by omega) (by omega))
            · skip
              refine x_iconst dX4_laysRows_75 ?_
              refine x_goto (t := 80) dX4_laysRows_76 (by decide) ?_
              refine x_top (bi (toLeft b r)) (by first | exact (bi_t (by omega)).symm | exact (bi_f (by omega)).symm) ?_
              refine x_istore dX4_laysRows_80 (by decide) ?_
              refine x_aload_n dX4_laysRows_82 rfl ?_
              refine x_iconst dX4_laysRows_83 ?_
              refine x_iload_n dX4_laysRows_84 rfl ?_
              refine x_imul dX4_laysRows_85 ?_
              refine x_iload_n dX4_laysRows_86 rfl ?_
              refine x_iadd dX4_laysRows_87 ?_
              refine x_iload dX4_laysRows_88 rfl ?_
              refine m_cw2 (c_laysRow (left := toLeft b r) (by omega) h4 (hst.2 r (by omega) (by omega)) (by omega) hfl) fX4_laysRow q2443 (by decide) (Nat.le_of_ble_eq_true rfl) dX4_laysRows_90 ?_
              rw [hnext (by omega)]
              refine x_iinc dX4_laysRows_93 rfl (by decide) ?_
              refine x_goto (t := 48) dX4_laysRows_96 (by decide) ?_
              exact x_loc (by rw [show ((r + 1 : Nat) : Int) = (r : Int) + 1 by omega]; exact (by repeat first | exact trivial | refine ⟨Or.inr rfl, ?_⟩ | refine ⟨Or.inl rfl, ?_⟩)) (ih2 (r + 1) (by omega) (by omega))
