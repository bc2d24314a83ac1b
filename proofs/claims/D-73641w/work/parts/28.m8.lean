set_option maxRecDepth 100000
/-! THE MODEL's methods, 8: pieces -/
/-- Integer.bitCount counts bits (shown in its own part) -/
theorem bcx_cnt (z : Int) : bcx z = cnt (tb z) 32 := bcx_cnt2 z
/-- the rows R stand in the arrays -/
def RE (I : Nat → Int → Int) (R : List (List Int)) : Prop := I 360 23 = R.length ∧ (∀ j : Nat, j ≤ R.length → I 373 j = bg R j) ∧ (∀ i : Nat, i < R.flatten.length → I 374 i = R.flatten.getD i 0) ∧ R.length ≤ 24 ∧ ∀ l ∈ R, (1 ≤ l.length ∧ l.length ≤ 10) ∧ ∀ c ∈ l, 0 ≤ c ∧ c < 20
/-- the piece w stands in its array -/
def PE (I : Nat → Int → Int) (w : List Int) : Prop := w.length ≤ 7 ∧ (∀ i : Nat, i < w.length → I 375 i = w.getD i 0) ∧ ∀ c ∈ w, 0 ≤ c ∧ c < 20
/-- w stands at place i of a row -/
def pat (row : List Int) (i : Nat) (w : List Int) : Prop := (row.drop i).take w.length = w
theorem bg_row {R : List (List Int)} {r : Nat} (hr : r < R.length) : bg R ((r : Int) + 1) = bg R r + (R.getD r []).length := by
  simp only [bg]
  have h1 : R.take (r + 1) = R.take r ++ [R[r]] := by rw [List.take_succ, List.getElem?_eq_getElem hr]; rfl
  have h2 : R.getD r [] = R[r] := by simp [hr]
  rw [show ((r : Int) + 1).toNat = r + 1 by omega, show (r : Int).toNat = r by omega, h1, h2, List.flatten_append, List.length_append, List.flatten_singleton]
  omega
theorem bg_le {R : List (List Int)} {r : Nat} (hr : r < R.length) : bg R r + (R.getD r []).length ≤ R.flatten.length ∧ 0 ≤ bg R r := by
  refine ⟨?_, by simp [bg]⟩
  rw [← bg_row hr]
  simp only [bg]
  have : (R.take ((r : Int) + 1).toNat).flatten.length ≤ R.flatten.length := by
    conv => rhs; rw [← List.take_append_drop ((r : Int) + 1).toNat R, List.flatten_append, List.length_append]
    omega
  omega
theorem RE.flat {I : Nat → Int → Int} {R : List (List Int)} (h : RE I R) : R.flatten.length ≤ 240 := by
  have := flat10 (fun l hl => (h.2.2.2.2 l hl).1.2)
  have := h.2.2.2.1
  omega
theorem RE.row {I : Nat → Int → Int} {R : List (List Int)} (h : RE I R) {r : Nat} (hr : r < R.length) : (1 ≤ (R.getD r []).length ∧ (R.getD r []).length ≤ 10) ∧ ∀ c ∈ R.getD r [], 0 ≤ c ∧ c < 20 := by
  have : R.getD r [] ∈ R := by
    rw [List.getD_eq_getElem?_getD, List.getElem?_eq_getElem hr]
    exact List.getElem_mem hr
  exact h.2.2.2.2 _ this
/-- a place of a row in the array -/
theorem RE.at {I : Nat → Int → Int} {R : List (List Int)} (h : RE I R) {r i : Nat} (hr : r < R.length) (hi : i < (R.getD r []).length) : I 374 (bg R r + i) = (R.getD r []).getD i 0 := by
  have hle := bg_le hr
  have h1 := h.2.2.1 ((bg R r).toNat + i) (by omega)
  rw [show (((bg R r).toNat + i : Nat) : Int) = bg R r + i by omega] at h1
  rw [h1]
  have hsplit : R.flatten = (R.take r).flatten ++ (R.getD r [] ++ (R.drop (r + 1)).flatten) := by
    conv => lhs; rw [← List.take_append_drop r R, List.flatten_append, List.drop_eq_getElem_cons hr, List.flatten_cons]
    simp [hr]
  have hb : (bg R r).toNat = (R.take r).flatten.length := by simp [bg]
  rw [hb, hsplit]
  simp only [List.getD_eq_getElem?_getD]
  rw [List.getElem?_append_right (by omega), show (R.take r).flatten.length + i - (R.take r).flatten.length = i by omega]
  have hi' : i < (R[r]?.getD []).length := by simpa [List.getD_eq_getElem?_getD] using hi
  rw [List.getElem?_append_left hi']
theorem pat_iff {row w : List Int} {i : Nat} (hw : 0 < w.length) : pat row i w ↔ i + w.length ≤ row.length ∧ ∀ k, k < w.length → row.getD (i + k) 0 = w.getD k 0 := by
  unfold pat
  constructor
  · intro h
    have hlen : ((row.drop i).take w.length).length = w.length := by rw [h]
    rw [List.length_take, List.length_drop] at hlen
    refine ⟨by omega, fun k hk => ?_⟩
    have : ((row.drop i).take w.length).getD k 0 = w.getD k 0 := by rw [h]
    rw [← this]
    simp only [List.getD_eq_getElem?_getD, List.getElem?_take, if_pos hk, List.getElem?_drop]
  · rintro ⟨h1, h2⟩
    apply List.ext_getElem?
    intro k
    by_cases hk : k < w.length
    · have := h2 k hk
      simp only [List.getD_eq_getElem?_getD] at this
      rw [List.getElem?_take, if_pos hk, List.getElem?_drop]
      rw [List.getElem?_eq_getElem (by omega), List.getElem?_eq_getElem hk] at this ⊢
      simpa using this
    · rw [List.getElem?_eq_none (by rw [List.length_take]; omega), List.getElem?_eq_none (by omega)]
theorem c_stands {I : Nat → Int → Int} {R : List (List Int)} {w : List Int} {r i : Nat} (hR : RE I R) (hw : PE I w) (hw0 : 0 < w.length) (hr : r < R.length) (hi : i < (R.getD r []).length) : mC yX4_stands cX4_stands 5 (some FieldType.boolean) 0 [vR (some 360), vI (bg R r + i), vI (bg R r + (R.getD r []).length), vI (w.length : Int)] I (some (vI (bi (pat (R.getD r []) i w)))) I := by
  have hb := bg_le hr
  have hfl := hR.flat
  have hrow := hR.row hr
  have hat := fun k => hR.at (i := k) hr
  have hpat := pat_iff (row := R.getD r []) (i := i) hw0
  have hw7 := hw.1
  refine mC.of (by decide) rfl (Nat.le_of_ble_eq_true rfl) (fun G nx => ?_)
  refine x_ls (ls2 := [some (vR (some 360)), some (vI (bg R r + i)), some (vI (bg R r + (R.getD r []).length)), some (vI (w.length : Int)), none]) rfl ?_
  generalize R.getD r [] = row at *
  generalize bg R r = b at *
  refine x_iload_n dX4_stands_0 rfl ?_
  refine x_iload_n dX4_stands_1 rfl ?_
  refine x_iadd dX4_stands_2 ?_
  refine x_iload_n dX4_stands_3 rfl ?_
  refine x_icmp_le (t := 9) dX4_stands_4 (by decide) (by omega) (fun c_4 => ?_) (fun c_4 => ?_)
  · skip
    refine x_iconst dX4_stands_9 ?_
    refine x_istore dX4_stands_10 (by decide) ?_
    refine x_loc (ls2 := [some (vR (some 360)), some (vI (b + i)), some (vI (b + row.length)), some (vI (w.length : Int)), some (vI ((0 : Nat) : Int))]) (by repeat first | exact trivial | refine ⟨Or.inr rfl, ?_⟩ | refine ⟨Or.inl rfl, ?_⟩) ?_
    refine rr_ind (W := fun k : Nat => mm G yX4_stands cX4_stands 5 (some FieldType.boolean) 0 nx _ _ 12 [some (vR (some 360)), some (vI (b + i)), some (vI (b + row.length)), some (vI (w.length : Int)), some (vI (k : Int))] [] I) (fun k => w.length - k) (fun k => k ≤ w.length ∧ ∀ m, m < k → row.getD (i + m) 0 = w.getD m 0) ?_ 0 ⟨by omega, fun m hm => by omega⟩
    rintro k ⟨hk, hall⟩ ih
    have e1 : k < w.length → I 374 (b + i + k) = row.getD (i + k) 0 := fun q => by
      rw [← hat (i + k) (by omega)]
      congr 1
      omega
    have e2 : k < w.length → I 375 k = w.getD k 0 := fun q => hw.2.1 k q
    have b1 : k < w.length → 0 ≤ row.getD (i + k) 0 ∧ row.getD (i + k) 0 < 20 := fun q => by
      rw [List.getD_eq_getElem?_getD, List.getElem?_eq_getElem (by omega)]
      exact hrow.2 _ (List.getElem_mem _)
    have b2 : k < w.length → 0 ≤ w.getD k 0 ∧ w.getD k 0 < 20 := fun q => by
      rw [List.getD_eq_getElem?_getD, List.getElem?_eq_getElem q]
      exact hw.2.2 _ (List.getElem_mem _)
    refine x_iload dX4_stands_12 rfl ?_
    refine x_iload_n dX4_stands_14 rfl ?_
    refine x_icmp_ge (t := 45) dX4_stands_15 (by decide) (by omega) (fun c_15 => ?_) (fun c_15 => ?_)
    · skip
      have hk2 : k = w.length := by omega
      subst hk2
      refine x_iconst dX4_stands_45 ?_
      refine x_zret rfl dX4_stands_46 (by first | exact Or.inl rfl | exact Or.inr rfl | exact bi_01 _ | omega) (Nat.le_refl _) (Nat.le_refl _) ?_
      exact ⟨rT (hpat.mpr ⟨by omega, hall⟩), rfl, rfl⟩
    · skip
      refine x_aload_n dX4_stands_18 rfl ?_
      refine m_getA (kf := 22) 22 (a := 374) (by decide) rfl rfl q2137 rfl rfl dX4_stands_19 ?_
      refine x_iload_n dX4_stands_22 rfl ?_
      refine x_iload dX4_stands_23 rfl ?_
      refine x_iadd dX4_stands_25 ?_
      refine m_iald (n := 240) rfl rfl (by decide) (by omega) dX4_stands_26 ?_
      rw [e1 (by omega)]
      refine x_aload_n dX4_stands_27 rfl ?_
      refine m_getA (kf := 24) 24 (a := 375) (by decide) rfl rfl q2139 rfl rfl dX4_stands_28 ?_
      refine x_iload dX4_stands_31 rfl ?_
      refine m_iald (n := 7) rfl rfl (by decide) (by omega) dX4_stands_33 ?_
      rw [e2 (by omega)]
      have b1 := b1 (by omega)
      have b2 := b2 (by omega)
      refine x_icmp_eq (t := 39) dX4_stands_34 (by decide) (by omega) (fun c_34 => ?_) (fun c_34 => ?_)
      · skip
        refine x_iinc dX4_stands_39 rfl (by decide) ?_
        refine x_goto (t := 12) dX4_stands_42 (by decide) ?_
        exact x_loc (by rw [show ((k + 1 : Nat) : Int) = (k : Int) + 1 by omega]; exact (by repeat first | exact trivial | refine ⟨Or.inr rfl, ?_⟩ | refine ⟨Or.inl rfl, ?_⟩)) (ih (k + 1) ⟨by omega, fun m hm => by
          by_cases e : m = k
          · rw [e]; exact c_34
          · exact hall m (by omega)⟩ (by omega))
      · skip
        refine x_iconst dX4_stands_37 ?_
        refine x_zret rfl dX4_stands_38 (by first | exact Or.inl rfl | exact Or.inr rfl | exact bi_01 _ | omega) (Nat.le_refl _) (Nat.le_refl _) ?_
        exact ⟨rF (fun q => c_34 ((hpat.mp q).2 k (by omega))), rfl, rfl⟩
  · skip
    refine x_iconst dX4_stands_7 ?_
    refine x_zret rfl dX4_stands_8 (by first | exact Or.inl rfl | exact Or.inr rfl | exact bi_01 _ | omega) (Nat.le_refl _) (Nat.le_refl _) ?_
    exact ⟨rF (fun q => by have := (hpat.mp q).1; omega), rfl, rfl⟩
/-- how often w stands in a row, in rows -/
noncomputable def ocR (w row : List Int) : Int := cnt (fun i => pat row i.toNat w) row.length
noncomputable def comesL (R : List (List Int)) (w : List Int) : Int := (R.map (ocR w)).sum
theorem comesL_snoc {R : List (List Int)} {w : List Int} {r : Nat} (hr : r < R.length) : comesL (R.take (r + 1)) w = comesL (R.take r) w + ocR w (R.getD r []) := by
  have h1 : R.take (r + 1) = R.take r ++ [R[r]] := by rw [List.take_succ, List.getElem?_eq_getElem hr]; rfl
  have h2 : R.getD r [] = R[r] := by simp [hr]
  unfold comesL
  rw [h1, h2, List.map_append, List.sum_append]
  simp only [List.map_cons, List.map_nil, List.sum_cons, List.sum_nil, Int.add_zero]
theorem comesL_in {R : List (List Int)} {w : List Int} (h : ∀ l ∈ R, l.length ≤ 10) : 0 ≤ comesL R w ∧ comesL R w ≤ 10 * R.length := by
  unfold comesL
  induction R with
  | nil => simp
  | cons a R ih =>
    have h1 := ih (fun l hl => h l (List.mem_cons_of_mem _ hl))
    have h2 := h a List.mem_cons_self
    have h3 := cnt_in (fun i => pat a i.toNat w) (n := a.length) (by omega)
    simp only [List.map_cons, List.sum_cons, List.length_cons]
    unfold ocR at *
    omega
theorem c_comesOf {I : Nat → Int → Int} {R : List (List Int)} {w : List Int} (hR : RE I R) (hw : PE I w) (hw0 : 0 < w.length) : mC yX4_comesOf cX4_comesOf 5 (some FieldType.int) 1 [vR (some 360), vI (w.length : Int)] I (some (vI (comesL R w))) I := by
  have hfl := hR.flat
  have h24 := hR.2.2.2.1
  have e23 := hR.1
  refine mC.of (by decide) rfl (Nat.le_of_ble_eq_true rfl) (fun G nx => ?_)
  refine x_ls (ls2 := [some (vR (some 360)), some (vI (w.length : Int)), none, none, none]) rfl ?_
  refine x_iconst dX4_comesOf_0 ?_
  refine x_istore_n dX4_comesOf_1 (by decide) ?_
  refine x_iconst dX4_comesOf_2 ?_
  refine x_istore_n dX4_comesOf_3 (by decide) ?_
  refine x_loc (ls2 := [some (vR (some 360)), some (vI (w.length : Int)), some (vI (comesL (R.take 0) w)), some (vI ((0 : Nat) : Int)), none]) (by simp only [List.take_zero, comesL, List.map_nil, List.sum_nil]; exact (by repeat first | exact trivial | refine ⟨Or.inr rfl, ?_⟩ | refine ⟨Or.inl rfl, ?_⟩)) ?_
  refine rr_ind (W := fun r : Nat => mm G yX4_comesOf cX4_comesOf 5 (some FieldType.int) 1 nx _ _ 4 [some (vR (some 360)), some (vI (w.length : Int)), some (vI (comesL (R.take r) w)), some (vI (r : Int)), none] [] I) (fun r => R.length - r) (fun r => r ≤ R.length) ?_ 0 (by omega)
  intro r hr ih
  have hcl := comesL_in (R := R.take r) (w := w) (fun l hl => (hR.2.2.2.2 l (List.mem_of_mem_take hl)).1.2)
  have hlt : (R.take r).length = r := by rw [List.length_take]; omega
  have hbr := hR.2.1 r hr
  refine x_iload_n dX4_comesOf_4 rfl ?_
  refine x_aload_n dX4_comesOf_5 rfl ?_
  refine m_getI (kf := 23) 23 (by decide) rfl rfl q2138 rfl dX4_comesOf_6 ?_
  rw [e23]
  refine x_icmp_ge (t := 66) dX4_comesOf_9 (by decide) (by omega) (fun c_9 => ?_) (fun c_9 => ?_)
  · skip
    refine x_iload_n dX4_comesOf_66 rfl ?_
    refine x_iret rfl dX4_comesOf_67 (Nat.le_refl _) (Nat.le_refl _) ?_
    exact ⟨by rw [show r = R.length by omega, List.take_length], rfl, rfl⟩
  · skip
    refine x_aload_n dX4_comesOf_12 rfl ?_
    refine m_getA (kf := 21) 21 (a := 373) (by decide) rfl rfl q2136 rfl rfl dX4_comesOf_13 ?_
    refine x_iload_n dX4_comesOf_16 rfl ?_
    refine m_iald (n := 25) rfl rfl (by decide) (by omega) dX4_comesOf_17 ?_
    rw [hbr]
    refine x_istore dX4_comesOf_18 (by decide) ?_
    have hb := bg_le (R := R) (r := r) (by omega)
    have hrow := hR.row (r := r) (by omega)
    have hsn := comesL_snoc (R := R) (w := w) (r := r) (by omega)
    have hbn := hR.2.1 (r + 1) (by omega)
    rw [show ((r + 1 : Nat) : Int) = (r : Int) + 1 by omega, bg_row (show r < R.length by omega)] at hbn
    refine x_loc (ls2 := [some (vR (some 360)), some (vI (w.length : Int)), some (vI (comesL (R.take r) w + cnt (fun i => pat (R.getD r []) i.toNat w) ((0 : Nat) : Int))), some (vI (r : Int)), some (vI (bg R r + ((0 : Nat) : Int)))]) (by rw [show ((0 : Nat) : Int) = 0 from rfl, cnt_0, Int.add_zero, Int.add_zero]; exact (by repeat first | exact trivial | refine ⟨Or.inr rfl, ?_⟩ | refine ⟨Or.inl rfl, ?_⟩)) ?_
    refine rr_ind (W := fun i : Nat => mm G yX4_comesOf cX4_comesOf 5 (some FieldType.int) 1 nx _ _ 20 [some (vR (some 360)), some (vI (w.length : Int)), some (vI (comesL (R.take r) w + cnt (fun i => pat (R.getD r []) i.toNat w) (i : Int))), some (vI (r : Int)), some (vI (bg R r + (i : Int)))] [] I) (fun i => (R.getD r []).length - i) (fun i => i ≤ (R.getD r []).length) ?_ 0 (by omega)
    intro i hi ih2
    have hci := cnt_in (fun i => pat (R.getD r []) i.toNat w) (n := (i : Int)) (by omega)
    have hup := cnt_up (fun i => pat (R.getD r []) i.toNat w) (k := (i : Int)) (by omega)
    rw [show (i : Int).toNat = i by omega] at hup
    refine x_iload dX4_comesOf_20 rfl ?_
    refine x_aload_n dX4_comesOf_22 rfl ?_
    refine m_getA (kf := 21) 21 (a := 373) (by decide) rfl rfl q2136 rfl rfl dX4_comesOf_23 ?_
    refine x_iload_n dX4_comesOf_26 rfl ?_
    refine x_iconst dX4_comesOf_27 ?_
    refine x_iadd dX4_comesOf_28 ?_
    refine m_iald (n := 25) rfl rfl (by decide) (by omega) dX4_comesOf_29 ?_
    rw [hbn]
    refine x_icmp_ge (t := 60) dX4_comesOf_30 (by decide) (by omega) (fun c_30 => ?_) (fun c_30 => ?_)
    · skip
      have hi2 : i = (R.getD r []).length := by omega
      refine x_iinc dX4_comesOf_60 rfl (by decide) ?_
      refine x_goto (t := 4) dX4_comesOf_63 (by decide) ?_
      exact x_loc (by rw [hsn, show ((r + 1 : Nat) : Int) = (r : Int) + 1 by omega]; unfold ocR; rw [← hi2]; exact (by repeat first | exact trivial | refine ⟨Or.inr rfl, ?_⟩ | refine ⟨Or.inl rfl, ?_⟩)) (ih (r + 1) (by omega) (by omega))
    · skip
      refine x_iload_n dX4_comesOf_33 rfl ?_
      refine x_aload_n dX4_comesOf_34 rfl ?_
      refine x_iload dX4_comesOf_35 rfl ?_
      refine x_aload_n dX4_comesOf_37 rfl ?_
      refine m_getA (kf := 21) 21 (a := 373) (by decide) rfl rfl q2136 rfl rfl dX4_comesOf_38 ?_
      refine x_iload_n dX4_comesOf_41 rfl ?_
      refine x_iconst dX4_comesOf_42 ?_
      refine x_iadd dX4_comesOf_43 ?_
      refine m_iald (n := 25) rfl rfl (by decide) (by omega) dX4_comesOf_44 ?_
      rw [hbn]
      refine x_iload_n dX4_comesOf_45 rfl ?_
      refine m_cv3 (c_stands hR hw hw0 (by omega) (by omega)) fX4_stands q2459 (by decide) (Nat.le_of_ble_eq_true rfl) dX4_comesOf_46 ?_
      refine m_cs1 (c_truth) fX4_truth q2327 (by decide) (Nat.le_of_ble_eq_true rfl) dX4_comesOf_49 ?_
      refine x_iadd dX4_comesOf_52 ?_
      rw [Int.add_assoc, ← hup]
      refine x_istore_n dX4_comesOf_53 (by decide) ?_
      refine x_iinc dX4_comesOf_54 rfl (by decide) ?_
      refine x_goto (t := 20) dX4_comesOf_57 (by decide) ?_
      exact x_loc (by rw [show ((i + 1 : Nat) : Int) = (i : Int) + 1 by omega, ← Int.add_assoc]; exact (by repeat first | exact trivial | refine ⟨Or.inr rfl, ?_⟩ | refine ⟨Or.inl rfl, ?_⟩)) (ih2 (i + 1) (by omega) (by omega))
/-- what stands behind w; whether w ends a row -/
def follR (row w : List Int) (n : Nat) (c : Int) : Prop := ∃ i, i < n ∧ pat row i w ∧ row[i + w.length]? = some c
def foll (R : List (List Int)) (w : List Int) (c : Int) : Prop := ∃ row ∈ R, follR row w row.length c
def endR (row w : List Int) (n : Nat) : Prop := ∃ i, i < n ∧ pat row i w ∧ i + w.length = row.length
def endL (R : List (List Int)) (w : List Int) : Prop := ∃ row ∈ R, endR row w row.length
noncomputable def nextL (R : List (List Int)) (w : List Int) : Int := cnt (foll R w) 32 + bi (endL R w)
theorem mem_snoc {R : List (List Int)} {r : Nat} (hr : r < R.length) {P : List Int → Prop} : (∃ row ∈ R.take (r + 1), P row) ↔ (∃ row ∈ R.take r, P row) ∨ P (R.getD r []) := by
  rw [List.take_succ, List.getElem?_eq_getElem hr]
  have : R.getD r [] = R[r] := by simp [hr]
  rw [this]
  simp only [Option.toList_some, List.mem_append, List.mem_singleton]
  constructor
  · rintro ⟨row, h | h, hp⟩
    · exact Or.inl ⟨row, h, hp⟩
    · rw [h] at hp; exact Or.inr hp
  · rintro (⟨row, h, hp⟩ | hp)
    · exact ⟨row, Or.inl h, hp⟩
    · exact ⟨_, Or.inr rfl, hp⟩
theorem follR_up (row w : List Int) (n : Nat) (c : Int) : follR row w (n + 1) c ↔ follR row w n c ∨ (pat row n w ∧ row[n + w.length]? = some c) := by
  unfold follR
  constructor
  · rintro ⟨i, h1, h2⟩
    by_cases e : i = n
    · rw [e] at h2; exact Or.inr h2
    · exact Or.inl ⟨i, by omega, h2⟩
  · rintro (⟨i, h1, h2⟩ | h)
    · exact ⟨i, by omega, h2⟩
    · exact ⟨n, by omega, h⟩
theorem endR_up (row w : List Int) (n : Nat) : endR row w (n + 1) ↔ endR row w n ∨ (pat row n w ∧ n + w.length = row.length) := by
  unfold endR
  constructor
  · rintro ⟨i, h1, h2⟩
    by_cases e : i = n
    · rw [e] at h2; exact Or.inr h2
    · exact Or.inl ⟨i, by omega, h2⟩
  · rintro (⟨i, h1, h2⟩ | h)
    · exact ⟨i, by omega, h2⟩
    · exact ⟨n, by omega, h⟩
theorem bi_iff {P Q : Prop} (h : P ↔ Q) : bi P = bi Q := by
  by_cases hp : P
  · rw [bi_t hp, bi_t (h.mp hp)]
  · rw [bi_f hp, bi_f (fun q => hp (h.mpr q))]
theorem cnt_iff {P Q : Int → Prop} {n : Int} (hn : 0 ≤ n) (h : ∀ k, 0 ≤ k → k < n → (P k ↔ Q k)) : cnt P n = cnt Q n := by
  obtain ⟨N, rfl⟩ : ∃ N : Nat, n = N := ⟨n.toNat, by omega⟩
  clear hn
  induction N with
  | zero => rw [show ((0 : Nat) : Int) = 0 from rfl, cnt_0, cnt_0]
  | succ N ih =>
    rw [show ((N + 1 : Nat) : Int) = (N : Int) + 1 by omega, cnt_up P (by omega), cnt_up Q (by omega), ih (fun k h1 h2 => h k h1 (by omega)), bi_iff (h N (by omega) (by omega))]
theorem c_nextOf {I : Nat → Int → Int} {R : List (List Int)} {w : List Int} (hR : RE I R) (hw : PE I w) (hw0 : 0 < w.length) : mC yX4_nextOf cX4_nextOf 6 (some FieldType.int) 1 [vR (some 360), vI (w.length : Int)] I (some (vI (nextL R w))) I := by
  have hfl := hR.flat
  have h24 := hR.2.2.2.1
  have e23 := hR.1
  have hw7 := hw.1
  refine mC.of (by decide) rfl (Nat.le_of_ble_eq_true rfl) (fun G nx => ?_)
  refine x_ls (ls2 := [some (vR (some 360)), some (vI (w.length : Int)), none, none, none, none]) rfl ?_
  refine x_iconst dX4_nextOf_0 ?_
  refine x_istore_n dX4_nextOf_1 (by decide) ?_
  refine x_iconst dX4_nextOf_2 ?_
  refine x_istore_n dX4_nextOf_3 (by decide) ?_
  refine x_iconst dX4_nextOf_4 ?_
  refine x_istore dX4_nextOf_5 (by decide) ?_
  refine x_loc (ls2 := [some (vR (some 360)), some (vI (w.length : Int)), some (vI (0, 0, (0 : Nat)).1), some (vI (0, 0, (0 : Nat)).2.1), some (vI ((0, 0, (0 : Nat)).2.2 : Int)), none]) (by repeat first | exact trivial | refine ⟨Or.inr rfl, ?_⟩ | refine ⟨Or.inl rfl, ?_⟩) ?_
  refine rr_ind (W := fun q : Int × Int × Nat => mm G yX4_nextOf cX4_nextOf 6 (some FieldType.int) 1 nx _ _ 7 [some (vR (some 360)), some (vI (w.length : Int)), some (vI q.1), some (vI q.2.1), some (vI (q.2.2 : Int)), none] [] I) (fun q => R.length - q.2.2) (fun q => q.2.2 ≤ R.length ∧ (∀ c, 0 ≤ c → c < 32 → (tb q.1 c ↔ foll (R.take q.2.2) w c)) ∧ q.2.1 = bi (endL (R.take q.2.2) w)) ?_ (0, 0, 0) ⟨by simp, fun c _ _ => by simp [tb_0, foll], by simp only [List.take_zero]; rw [bi_f]; simp [endL]⟩
  rintro ⟨s, e, r⟩ ⟨hr, hs, he⟩ ih
  simp only at hr hs he ih
  dsimp only
  have hbr := hR.2.1 r hr
  have he01 := bi_01 (endL (R.take r) w)
  refine x_iload dX4_nextOf_7 rfl ?_
  refine x_aload_n dX4_nextOf_9 rfl ?_
  refine m_getI (kf := 23) 23 (by decide) rfl rfl q2138 rfl dX4_nextOf_10 ?_
  rw [e23]
  refine x_icmp_ge (t := 130) dX4_nextOf_13 (by decide) (by omega) (fun c_13 => ?_) (fun c_13 => ?_)
  · skip
    have hr2 : r = R.length := by omega
    subst hr2
    rw [List.take_length] at hs he
    subst he
    refine x_iload_n dX4_nextOf_130 rfl ?_
    refine m_cs1 (xc_bitCount.m) fJ4_bitCount q2442 (by decide) (Nat.le_of_ble_eq_true rfl) dX4_nextOf_131 ?_
    refine x_iload_n dX4_nextOf_134 rfl ?_
    refine m_cs1 (c_truth) fX4_truth q2327 (by decide) (Nat.le_of_ble_eq_true rfl) dX4_nextOf_135 ?_
    refine x_iadd dX4_nextOf_138 ?_
    refine x_iret rfl dX4_nextOf_139 (Nat.le_refl _) (Nat.le_refl _) ?_
    exact ⟨by unfold nextL; rw [bcx_cnt, cnt_iff (by omega) (fun k h1 h2 => hs k h1 h2)], rfl, rfl⟩
  · skip
    refine x_aload_n dX4_nextOf_16 rfl ?_
    refine m_getA (kf := 21) 21 (a := 373) (by decide) rfl rfl q2136 rfl rfl dX4_nextOf_17 ?_
    refine x_iload dX4_nextOf_20 rfl ?_
    refine m_iald (n := 25) rfl rfl (by decide) (by omega) dX4_nextOf_22 ?_
    rw [hbr]
    refine x_istore dX4_nextOf_23 (by decide) ?_
    have hb := bg_le (R := R) (r := r) (by omega)
    have hrow := hR.row (r := r) (by omega)
    have hbn := hR.2.1 (r + 1) (by omega)
    have hat := fun k => hR.at (r := r) (i := k) (by omega)
    rw [show ((r + 1 : Nat) : Int) = (r : Int) + 1 by omega, bg_row (show r < R.length by omega)] at hbn
    refine x_loc (ls2 := [some (vR (some 360)), some (vI (w.length : Int)), some (vI (s, e, (0 : Nat)).1), some (vI (s, e, (0 : Nat)).2.1), some (vI (r : Int)), some (vI (bg R r + ((s, e, (0 : Nat)).2.2 : Int)))]) (by rw [show ((((s, e, (0 : Nat)).2.2 : Nat)) : Int) = 0 from rfl, Int.add_zero]; exact (by repeat first | exact trivial | refine ⟨Or.inr rfl, ?_⟩ | refine ⟨Or.inl rfl, ?_⟩)) ?_
    refine rr_ind (W := fun q : Int × Int × Nat => mm G yX4_nextOf cX4_nextOf 6 (some FieldType.int) 1 nx _ _ 25 [some (vR (some 360)), some (vI (w.length : Int)), some (vI q.1), some (vI q.2.1), some (vI (r : Int)), some (vI (bg R r + (q.2.2 : Int)))] [] I) (fun q => (R.getD r []).length - q.2.2) (fun q => q.2.2 ≤ (R.getD r []).length ∧ (∀ c, 0 ≤ c → c < 32 → (tb q.1 c ↔ foll (R.take r) w c ∨ follR (R.getD r []) w q.2.2 c)) ∧ q.2.1 = bi (endL (R.take r) w ∨ endR (R.getD r []) w q.2.2)) ?_ (s, e, 0) ⟨by simp, fun c h1 h2 => by rw [hs c h1 h2]; simp [follR], by rw [he]; exact bi_iff (by simp [endR])⟩
    rintro ⟨s2, e2, i⟩ ⟨hi, hs2, he2⟩ ih2
    simp only at hi hs2 he2 ih2
    dsimp only
    have he201 := bi_01 (endL (R.take r) w ∨ endR (R.getD r []) w i)
    refine x_iload dX4_nextOf_25 rfl ?_
    refine x_aload_n dX4_nextOf_27 rfl ?_
    refine m_getA (kf := 21) 21 (a := 373) (by decide) rfl rfl q2136 rfl rfl dX4_nextOf_28 ?_
    refine x_iload dX4_nextOf_31 rfl ?_
    refine x_iconst dX4_nextOf_33 ?_
    refine x_iadd dX4_nextOf_34 ?_
    refine m_iald (n := 25) rfl rfl (by decide) (by omega) dX4_nextOf_35 ?_
    rw [hbn]
    refine x_icmp_ge (t := 124) dX4_nextOf_36 (by decide) (by omega) (fun c_36 => ?_) (fun c_36 => ?_)
    · skip
      have hi2 : i = (R.getD r []).length := by omega
      have hgo := ih (s2, e2, r + 1) ⟨by simp only; omega, fun c h1 h2 => by
          simp only
          rw [hs2 c h1 h2]
          unfold foll
          rw [mem_snoc (show r < R.length by omega), hi2], by
          simp only
          rw [he2]
          apply bi_iff
          unfold endL
          rw [mem_snoc (show r < R.length by omega), hi2]⟩ (by simp only; omega)
      refine x_iinc dX4_nextOf_124 rfl (by decide) ?_
      refine x_goto (t := 7) dX4_nextOf_127 (by decide) ?_
      exact x_loc (by rw [show (((s2, e2, r + 1).2.2 : Nat) : Int) = (r : Int) + 1 by simp only; omega]; exact (by repeat first | exact trivial | refine ⟨Or.inr rfl, ?_⟩ | refine ⟨Or.inl rfl, ?_⟩)) hgo
    · skip
      refine x_aload_n dX4_nextOf_39 rfl ?_
      refine x_iload dX4_nextOf_40 rfl ?_
      refine x_aload_n dX4_nextOf_42 rfl ?_
      refine m_getA (kf := 21) 21 (a := 373) (by decide) rfl rfl q2136 rfl rfl dX4_nextOf_43 ?_
      refine x_iload dX4_nextOf_46 rfl ?_
      refine x_iconst dX4_nextOf_48 ?_
      refine x_iadd dX4_nextOf_49 ?_
      refine m_iald (n := 25) rfl rfl (by decide) (by omega) dX4_nextOf_50 ?_
      rw [hbn]
      refine x_iload_n dX4_nextOf_51 rfl ?_
      refine m_cv3 (c_stands hR hw hw0 (by omega) (by omega)) fX4_stands q2459 (by decide) (Nat.le_of_ble_eq_true rfl) dX4_nextOf_52 ?_
      refine x_if_eq_b (t := 118) dX4_nextOf_55 (by decide) (fun c_55 => ?_) (fun c_55 => ?_)
      · skip
        have hgo := ih2 (s2, e2, i + 1) ⟨by simp only; omega, fun c h1 h2 => by
            simp only
            rw [hs2 c h1 h2, follR_up]
            simp only [c_55, false_and, or_false], by
            simp only
            rw [he2]
            exact bi_iff (by rw [endR_up]; simp only [c_55, false_and, or_false])⟩ (by simp only; omega)
        refine x_iinc dX4_nextOf_118 rfl (by decide) ?_
        refine x_goto (t := 25) dX4_nextOf_121 (by decide) ?_
        exact x_loc (by rw [show (((s2, e2, i + 1).2.2 : Nat) : Int) = (i : Int) + 1 by simp only; omega, ← Int.add_assoc]; exact (by repeat first | exact trivial | refine ⟨Or.inr rfl, ?_⟩ | refine ⟨Or.inl rfl, ?_⟩)) hgo
      · skip
        have hpl := (pat_iff hw0).mp c_55
        rw [he2] at *
        refine x_iload_n dX4_nextOf_58 rfl ?_
        refine x_if_ne (t := 78) dX4_nextOf_59 (by decide) (by omega) (fun c_59 => ?_) (fun c_59 => ?_)
        · skip
          refine x_iconst dX4_nextOf_78 ?_
          refine x_goto (t := 83) dX4_nextOf_79 (by decide) ?_
          refine x_top (bi (endL (R.take r) w ∨ endR (R.getD r []) w (i + 1))) (by
            first
            | exact (bi_t (by rw [endR_up]; rcases Classical.em (endL (R.take r) w ∨ endR (R.getD r []) w i) with q | q
                              · exact q.elim Or.inl (fun z => Or.inr (Or.inl z))
                              · rw [bi_f q] at c_59; first | exact absurd rfl c_59 | exact Or.inr (Or.inr ⟨c_55, by omega⟩))).symm
            | exact (bi_f (by rw [endR_up]; rcases Classical.em (endL (R.take r) w ∨ endR (R.getD r []) w i) with q | q
                              · rw [bi_t q] at c_59; exact absurd c_59 (by decide)
                              · rintro (z | z | z)
                                · exact q (Or.inl z)
                                · exact q (Or.inr z)
                                · exact c_75 (by omega))).symm) ?_
          refine x_istore_n dX4_nextOf_83 (by decide) ?_
          refine x_iload_n dX4_nextOf_84 rfl ?_
          refine x_iload dX4_nextOf_85 rfl ?_
          refine x_iload_n dX4_nextOf_87 rfl ?_
          refine x_iadd dX4_nextOf_88 ?_
          refine x_aload_n dX4_nextOf_89 rfl ?_
          refine m_getA (kf := 21) 21 (a := 373) (by decide) rfl rfl q2136 rfl rfl dX4_nextOf_90 ?_
          refine x_iload dX4_nextOf_93 rfl ?_
          refine x_iconst dX4_nextOf_95 ?_
          refine x_iadd dX4_nextOf_96 ?_
          refine m_iald (n := 25) rfl rfl (by decide) (by omega) dX4_nextOf_97 ?_
          rw [hbn]
          refine x_icmp_ge (t := 115) dX4_nextOf_98 (by decide) (by omega) (fun c_98 => ?_) (fun c_98 => ?_)
          · skip
            have hget : (R.getD r [])[i + w.length]? = none := List.getElem?_eq_none (by omega)
            refine x_iconst dX4_nextOf_115 ?_
            refine x_ior dX4_nextOf_116 ?_
            refine x_istore_n dX4_nextOf_117 (by decide) ?_
            refine x_iinc dX4_nextOf_118 rfl (by decide) ?_
            refine x_goto (t := 25) dX4_nextOf_121 (by decide) ?_
            have hgo := ih2 (rr_or s2 0, bi (endL (R.take r) w ∨ endR (R.getD r []) w (i + 1)), i + 1) ⟨by simp only; omega, fun c h1 h2 => by
                simp only
                rw [tb_or, hs2 c h1 h2, follR_up, hget]
                simp [tb_0], rfl⟩ (by simp only; omega)
            exact x_loc (by rw [show ((((rr_or s2 0, bi (endL (R.take r) w ∨ endR (R.getD r []) w (i + 1)), i + 1) : Int × Int × Nat).2.2 : Nat) : Int) = (i : Int) + 1 by simp only; omega, ← Int.add_assoc]; exact (by repeat first | exact trivial | refine ⟨Or.inr rfl, ?_⟩ | refine ⟨Or.inl rfl, ?_⟩)) hgo
          · skip
            have hlt : i + w.length < (R.getD r []).length := by omega
            have hget : (R.getD r [])[i + w.length]? = some ((R.getD r []).getD (i + w.length) 0) := by
              rw [List.getD_eq_getElem?_getD (l := R.getD r []), List.getElem?_eq_getElem hlt]; rfl
            have hcb := hrow.2 ((R.getD r []).getD (i + w.length) 0) (List.mem_of_getElem? hget)
            refine x_iconst dX4_nextOf_101 ?_
            refine x_aload_n dX4_nextOf_102 rfl ?_
            refine m_getA (kf := 22) 22 (a := 374) (by decide) rfl rfl q2137 rfl rfl dX4_nextOf_103 ?_
            refine x_iload dX4_nextOf_106 rfl ?_
            refine x_iload_n dX4_nextOf_108 rfl ?_
            refine x_iadd dX4_nextOf_109 ?_
            refine m_iald (n := 240) rfl rfl (by decide) (by omega) dX4_nextOf_110 ?_
            rw [show bg R r + (i : Int) + w.length = bg R r + ((i + w.length : Nat) : Int) by omega, hat (i + w.length) (by omega)]
            refine x_ishl dX4_nextOf_111 ?_
            refine x_goto (t := 116) dX4_nextOf_112 (by decide) ?_
            refine x_ior dX4_nextOf_116 ?_
            refine x_istore_n dX4_nextOf_117 (by decide) ?_
            refine x_iinc dX4_nextOf_118 rfl (by decide) ?_
            refine x_goto (t := 25) dX4_nextOf_121 (by decide) ?_
            have hgo := ih2 (rr_or s2 (rr_shl 1 ((R.getD r []).getD (i + w.length) 0)), bi (endL (R.take r) w ∨ endR (R.getD r []) w (i + 1)), i + 1) ⟨by simp only; omega, fun c h1 h2 => by
                simp only
                rw [tb_or, hs2 c h1 h2, follR_up, tb_shl1 (by omega) (by omega), hget]
                simp only [Option.some.injEq, c_55, true_and]
                rw [or_assoc, eq_comm (a := c)], rfl⟩ (by simp only; omega)
            exact x_loc (by rw [show ((((rr_or s2 (rr_shl 1 ((R.getD r []).getD (i + w.length) 0)), bi (endL (R.take r) w ∨ endR (R.getD r []) w (i + 1)), i + 1) : Int × Int × Nat).2.2 : Nat) : Int) = (i : Int) + 1 by simp only; omega, ← Int.add_assoc]; exact (by repeat first | exact trivial | refine ⟨Or.inr rfl, ?_⟩ | refine ⟨Or.inl rfl, ?_⟩)) hgo
        · skip
          refine x_iload dX4_nextOf_62 rfl ?_
          refine x_iload_n dX4_nextOf_64 rfl ?_
          refine x_iadd dX4_nextOf_65 ?_
          refine x_aload_n dX4_nextOf_66 rfl ?_
          refine m_getA (kf := 21) 21 (a := 373) (by decide) rfl rfl q2136 rfl rfl dX4_nextOf_67 ?_
          refine x_iload dX4_nextOf_70 rfl ?_
          refine x_iconst dX4_nextOf_72 ?_
          refine x_iadd dX4_nextOf_73 ?_
          refine m_iald (n := 25) rfl rfl (by decide) (by omega) dX4_nextOf_74 ?_
          rw [hbn]
          refine x_icmp_ne (t := 82) dX4_nextOf_75 (by decide) (by omega) (fun c_75 => ?_) (fun c_75 => ?_)
          · skip
            refine x_iconst dX4_nextOf_82 ?_
            refine x_top (bi (endL (R.take r) w ∨ endR (R.getD r []) w (i + 1))) (by
              first
              | exact (bi_t (by rw [endR_up]; rcases Classical.em (endL (R.take r) w ∨ endR (R.getD r []) w i) with q | q
                                · exact q.elim Or.inl (fun z => Or.inr (Or.inl z))
                                · rw [bi_f q] at c_59; first | exact absurd rfl c_59 | exact Or.inr (Or.inr ⟨c_55, by omega⟩))).symm
              | exact (bi_f (by rw [endR_up]; rcases Classical.em (endL (R.take r) w ∨ endR (R.getD r []) w i) with q | q
                                · rw [bi_t q] at c_59; exact absurd c_59 (by decide)
                                · rintro (z | z | z)
                                  · exact q (Or.inl z)
                                  · exact q (Or.inr z)
                                  · exact c_75 (by omega))).symm) ?_
            refine x_istore_n dX4_nextOf_83 (by decide) ?_
            refine x_iload_n dX4_nextOf_84 rfl ?_
            refine x_iload dX4_nextOf_85 rfl ?_
            refine x_iload_n dX4_nextOf_87 rfl ?_
            refine x_iadd dX4_nextOf_88 ?_
            refine x_aload_n dX4_nextOf_89 rfl ?_
            refine m_getA (kf := 21) 21 (a := 373) (by decide) rfl rfl q2136 rfl rfl dX4_nextOf_90 ?_
            refine x_iload dX4_nextOf_93 rfl ?_
            refine x_iconst dX4_nextOf_95 ?_
            refine x_iadd dX4_nextOf_96 ?_
            refine m_iald (n := 25) rfl rfl (by decide) (by omega) dX4_nextOf_97 ?_
            rw [hbn]
            refine x_icmp_ge (t := 115) dX4_nextOf_98 (by decide) (by omega) (fun c_98 => ?_) (fun c_98 => ?_)
            · skip
              have hget : (R.getD r [])[i + w.length]? = none := List.getElem?_eq_none (by omega)
              refine x_iconst dX4_nextOf_115 ?_
              refine x_ior dX4_nextOf_116 ?_
              refine x_istore_n dX4_nextOf_117 (by decide) ?_
              refine x_iinc dX4_nextOf_118 rfl (by decide) ?_
              refine x_goto (t := 25) dX4_nextOf_121 (by decide) ?_
              have hgo := ih2 (rr_or s2 0, bi (endL (R.take r) w ∨ endR (R.getD r []) w (i + 1)), i + 1) ⟨by simp only; omega, fun c h1 h2 => by
                  simp only
                  rw [tb_or, hs2 c h1 h2, follR_up, hget]
                  simp [tb_0], rfl⟩ (by simp only; omega)
              exact x_loc (by rw [show ((((rr_or s2 0, bi (endL (R.take r) w ∨ endR (R.getD r []) w (i + 1)), i + 1) : Int × Int × Nat).2.2 : Nat) : Int) = (i : Int) + 1 by simp only; omega, ← Int.add_assoc]; exact (by repeat first | exact trivial | refine ⟨Or.inr rfl, ?_⟩ | refine ⟨Or.inl rfl, ?_⟩)) hgo
            · skip
              have hlt : i + w.length < (R.getD r []).length := by omega
              have hget : (R.getD r [])[i + w.length]? = some ((R.getD r []).getD (i + w.length) 0) := by
                rw [List.getD_eq_getElem?_getD (l := R.getD r []), List.getElem?_eq_getElem hlt]; rfl
              have hcb := hrow.2 ((R.getD r []).getD (i + w.length) 0) (List.mem_of_getElem? hget)
              refine x_iconst dX4_nextOf_101 ?_
              refine x_aload_n dX4_nextOf_102 rfl ?_
              refine m_getA (kf := 22) 22 (a := 374) (by decide) rfl rfl q2137 rfl rfl dX4_nextOf_103 ?_
              refine x_iload dX4_nextOf_106 rfl ?_
              refine x_iload_n dX4_nextOf_108 rfl ?_
              refine x_iadd dX4_nextOf_109 ?_
              refine m_iald (n := 240) rfl rfl (by decide) (by omega) dX4_nextOf_110 ?_
              rw [show bg R r + (i : Int) + w.length = bg R r + ((i + w.length : Nat) : Int) by omega, hat (i + w.length) (by omega)]
              refine x_ishl dX4_nextOf_111 ?_
              refine x_goto (t := 116) dX4_nextOf_112 (by decide) ?_
              refine x_ior dX4_nextOf_116 ?_
              refine x_istore_n dX4_nextOf_117 (by decide) ?_
              refine x_iinc dX4_nextOf_118 rfl (by decide) ?_
              refine x_goto (t := 25) dX4_nextOf_121 (by decide) ?_
              have hgo := ih2 (rr_or s2 (rr_shl 1 ((R.getD r []).getD (i + w.length) 0)), bi (endL (R.take r) w ∨ endR (R.getD r []) w (i + 1)), i + 1) ⟨by simp only; omega, fun c h1 h2 => by
                  simp only
                  rw [tb_or, hs2 c h1 h2, follR_up, tb_shl1 (by omega) (by omega), hget]
                  simp only [Option.some.injEq, c_55, true_and]
                  rw [or_assoc, eq_comm (a := c)], rfl⟩ (by simp only; omega)
              exact x_loc (by rw [show ((((rr_or s2 (rr_shl 1 ((R.getD r []).getD (i + w.length) 0)), bi (endL (R.take r) w ∨ endR (R.getD r []) w (i + 1)), i + 1) : Int × Int × Nat).2.2 : Nat) : Int) = (i : Int) + 1 by simp only; omega, ← Int.add_assoc]; exact (by repeat first | exact trivial | refine ⟨Or.inr rfl, ?_⟩ | refine ⟨Or.inl rfl, ?_⟩)) hgo
          · skip
            refine x_iconst dX4_nextOf_78 ?_
            refine x_goto (t := 83) dX4_nextOf_79 (by decide) ?_
            refine x_top (bi (endL (R.take r) w ∨ endR (R.getD r []) w (i + 1))) (by
              first
              | exact (bi_t (by rw [endR_up]; rcases Classical.em (endL (R.take r) w ∨ endR (R.getD r []) w i) with q | q
                                · exact q.elim Or.inl (fun z => Or.inr (Or.inl z))
                                · rw [bi_f q] at c_59; first | exact absurd rfl c_59 | exact Or.inr (Or.inr ⟨c_55, by omega⟩))).symm
              | exact (bi_f (by rw [endR_up]; rcases Classical.em (endL (R.take r) w ∨ endR (R.getD r []) w i) with q | q
                                · rw [bi_t q] at c_59; exact absurd c_59 (by decide)
                                · rintro (z | z | z)
                                  · exact q (Or.inl z)
                                  · exact q (Or.inr z)
                                  · exact c_75 (by omega))).symm) ?_
            refine x_istore_n dX4_nextOf_83 (by decide) ?_
            refine x_iload_n dX4_nextOf_84 rfl ?_
            refine x_iload dX4_nextOf_85 rfl ?_
            refine x_iload_n dX4_nextOf_87 rfl ?_
            refine x_iadd dX4_nextOf_88 ?_
            refine x_aload_n dX4_nextOf_89 rfl ?_
            refine m_getA (kf := 21) 21 (a := 373) (by decide) rfl rfl q2136 rfl rfl dX4_nextOf_90 ?_
            refine x_iload dX4_nextOf_93 rfl ?_
            refine x_iconst dX4_nextOf_95 ?_
            refine x_iadd dX4_nextOf_96 ?_
            refine m_iald (n := 25) rfl rfl (by decide) (by omega) dX4_nextOf_97 ?_
            rw [hbn]
            refine x_icmp_ge (t := 115) dX4_nextOf_98 (by decide) (by omega) (fun c_98 => ?_) (fun c_98 => ?_)
            · skip
              have hget : (R.getD r [])[i + w.length]? = none := List.getElem?_eq_none (by omega)
              refine x_iconst dX4_nextOf_115 ?_
              refine x_ior dX4_nextOf_116 ?_
              refine x_istore_n dX4_nextOf_117 (by decide) ?_
              refine x_iinc dX4_nextOf_118 rfl (by decide) ?_
              refine x_goto (t := 25) dX4_nextOf_121 (by decide) ?_
              have hgo := ih2 (rr_or s2 0, bi (endL (R.take r) w ∨ endR (R.getD r []) w (i + 1)), i + 1) ⟨by simp only; omega, fun c h1 h2 => by
                  simp only
                  rw [tb_or, hs2 c h1 h2, follR_up, hget]
                  simp [tb_0], rfl⟩ (by simp only; omega)
              exact x_loc (by rw [show ((((rr_or s2 0, bi (endL (R.take r) w ∨ endR (R.getD r []) w (i + 1)), i + 1) : Int × Int × Nat).2.2 : Nat) : Int) = (i : Int) + 1 by simp only; omega, ← Int.add_assoc]; exact (by repeat first | exact trivial | refine ⟨Or.inr rfl, ?_⟩ | refine ⟨Or.inl rfl, ?_⟩)) hgo
            · skip
              have hlt : i + w.length < (R.getD r []).length := by omega
              have hget : (R.getD r [])[i + w.length]? = some ((R.getD r []).getD (i + w.length) 0) := by
                rw [List.getD_eq_getElem?_getD (l := R.getD r []), List.getElem?_eq_getElem hlt]; rfl
              have hcb := hrow.2 ((R.getD r []).getD (i + w.length) 0) (List.mem_of_getElem? hget)
              refine x_iconst dX4_nextOf_101 ?_
              refine x_aload_n dX4_nextOf_102 rfl ?_
              refine m_getA (kf := 22) 22 (a := 374) (by decide) rfl rfl q2137 rfl rfl dX4_nextOf_103 ?_
              refine x_iload dX4_nextOf_106 rfl ?_
              refine x_iload_n dX4_nextOf_108 rfl ?_
              refine x_iadd dX4_nextOf_109 ?_
              refine m_iald (n := 240) rfl rfl (by decide) (by omega) dX4_nextOf_110 ?_
              rw [show bg R r + (i : Int) + w.length = bg R r + ((i + w.length : Nat) : Int) by omega, hat (i + w.length) (by omega)]
              refine x_ishl dX4_nextOf_111 ?_
              refine x_goto (t := 116) dX4_nextOf_112 (by decide) ?_
              refine x_ior dX4_nextOf_116 ?_
              refine x_istore_n dX4_nextOf_117 (by decide) ?_
              refine x_iinc dX4_nextOf_118 rfl (by decide) ?_
              refine x_goto (t := 25) dX4_nextOf_121 (by decide) ?_
              have hgo := ih2 (rr_or s2 (rr_shl 1 ((R.getD r []).getD (i + w.length) 0)), bi (endL (R.take r) w ∨ endR (R.getD r []) w (i + 1)), i + 1) ⟨by simp only; omega, fun c h1 h2 => by
                  simp only
                  rw [tb_or, hs2 c h1 h2, follR_up, tb_shl1 (by omega) (by omega), hget]
                  simp only [Option.some.injEq, c_55, true_and]
                  rw [or_assoc, eq_comm (a := c)], rfl⟩ (by simp only; omega)
              exact x_loc (by rw [show ((((rr_or s2 (rr_shl 1 ((R.getD r []).getD (i + w.length) 0)), bi (endL (R.take r) w ∨ endR (R.getD r []) w (i + 1)), i + 1) : Int × Int × Nat).2.2 : Nat) : Int) = (i : Int) + 1 by simp only; omega, ← Int.add_assoc]; exact (by repeat first | exact trivial | refine ⟨Or.inr rfl, ?_⟩ | refine ⟨Or.inl rfl, ?_⟩)) hgo
