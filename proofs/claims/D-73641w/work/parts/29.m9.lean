set_option maxRecDepth 100000
/-! THE MODEL's methods, 9: words -/
theorem nextL_in (R : List (List Int)) (w : List Int) : 0 ≤ nextL R w ∧ nextL R w ≤ 33 := by
  have h1 := cnt_in (foll R w) (n := 32) (by omega)
  have h2 := bi_01 (endL R w)
  unfold nextL
  omega
theorem RE_stA {I : Nat → Int → Int} {R : List (List Int)} (h : RE I R) (s : Int → Int) : RE (stA I 375 s) R := by
  unfold RE
  rw [stA_ne I s (by decide), stA_ne I s (by decide), stA_ne I s (by decide)]
  exact h
/-- the piece of a row from i on, of n signs -/
def pc_ (row : List Int) (i n : Nat) : List Int := (row.drop i).take n
theorem pc_len {row : List Int} {i n : Nat} (h : i + n ≤ row.length) : (pc_ row i n).length = n := by
  unfold pc_
  rw [List.length_take, List.length_drop]
  omega
theorem pc_succ {row : List Int} {i n : Nat} (h : i + n < row.length) : pc_ row i (n + 1) = pc_ row i n ++ [row.getD (i + n) 0] := by
  unfold pc_
  rw [List.take_succ, List.getElem?_drop, List.getElem?_eq_getElem h]
  simp [h]
theorem pc_mem {row : List Int} {i n : Nat} {c : Int} (h : c ∈ pc_ row i n) : c ∈ row := List.mem_of_mem_drop (List.mem_of_mem_take h)
/-- the word goes on behind n signs -/
def cont (R : List (List Int)) (rise : Int) (row : List Int) (i n : Nat) : Prop := i + n < row.length ∧ n < 7 ∧ (n < 2 ∨ nextL R (pc_ row i n) ≤ nextL R (pc_ row i (n - 1)) ∨ nextL R (pc_ row i n) < rise)
noncomputable def wlF (R : List (List Int)) (rise : Int) (row : List Int) (i : Nat) : Nat → Nat → Nat
  | 0, n => n
  | k + 1, n => @ite _ (cont R rise row i n) (Classical.propDecidable _) (wlF R rise row i k (n + 1)) n
noncomputable def wlen (R : List (List Int)) (rise : Int) (row : List Int) (i : Nat) : Nat := wlF R rise row i 7 1
theorem wlF_spec (R : List (List Int)) (rise : Int) (row : List Int) (i : Nat) : ∀ k n, 7 ≤ n + k → n ≤ wlF R rise row i k n ∧ ¬ cont R rise row i (wlF R rise row i k n) ∧ ∀ m, n ≤ m → m < wlF R rise row i k n → cont R rise row i m := by
  intro k
  induction k with
  | zero =>
    intro n h
    simp only [wlF]
    exact ⟨Nat.le_refl _, fun q => by have := q.2.1; omega, fun m h1 h2 => by omega⟩
  | succ k ih =>
    intro n h
    simp only [wlF]
    split
    · rename_i hc
      obtain ⟨a, b, c⟩ := ih (n + 1) (by omega)
      refine ⟨by omega, b, fun m h1 h2 => ?_⟩
      by_cases e : m = n
      · rw [e]; exact hc
      · exact c m (by omega) h2
    · rename_i hc
      exact ⟨Nat.le_refl _, hc, fun m h1 h2 => by omega⟩
theorem wlen_spec (R : List (List Int)) (rise : Int) (row : List Int) {i : Nat} (hi : i < row.length) : (1 ≤ wlen R rise row i ∧ wlen R rise row i ≤ 7 ∧ i + wlen R rise row i ≤ row.length) ∧ ¬ cont R rise row i (wlen R rise row i) ∧ ∀ m, 1 ≤ m → m < wlen R rise row i → cont R rise row i m := by
  obtain ⟨a, b, c⟩ := wlF_spec R rise row i 7 1 (by omega)
  change 1 ≤ wlen R rise row i at a
  change ¬ cont R rise row i (wlen R rise row i) at b
  change ∀ m, 1 ≤ m → m < wlen R rise row i → cont R rise row i m at c
  refine ⟨⟨a, ?_, ?_⟩, b, c⟩
  · by_cases h : wlen R rise row i = 1
    · omega
    · have := (c (wlen R rise row i - 1) (by omega) (by omega)).2.1
      omega
  · by_cases h : wlen R rise row i = 1
    · omega
    · have := (c (wlen R rise row i - 1) (by omega) (by omega)).1
      omega
/-- the piece array holds a piece of a row -/
def mPc (I : Nat → Int → Int) (w : List Int) : Nat → Int → Int := stA I 375 (wr (I 375) 0 w)
theorem mPc_ne (I : Nat → Int → Int) (w : List Int) {x : Nat} (h : x ≠ 375) : mPc I w x = I x := stA_ne I _ h
theorem mPc_nil (I : Nat → Int → Int) : mPc I [] = I := by unfold mPc; rw [wr_nil, stA_self]
theorem mPc_snoc (I : Nat → Int → Int) (w : List Int) (v : Int) : rr_u2 (mPc I w) 375 (w.length : Int) v = mPc I (w ++ [v]) := by unfold mPc; rw [stA_set, wr_snoc, Int.zero_add]
theorem RE_mPc {I : Nat → Int → Int} {R : List (List Int)} (h : RE I R) (w : List Int) : RE (mPc I w) R := RE_stA h _
theorem PE_mPc (I : Nat → Int → Int) {w : List Int} (h : w.length ≤ 7) (hc : ∀ c ∈ w, 0 ≤ c ∧ c < 20) : PE (mPc I w) w := by
  refine ⟨h, fun i hi => ?_, hc⟩
  unfold mPc
  rw [stA_same]
  have := wr_at (I 375) 0 w hi
  rw [Int.zero_add] at this
  exact this
theorem c_length {I : Nat → Int → Int} {R : List (List Int)} {r i : Nat} (hR : RE I R) (hr : r < R.length) (hi : i < (R.getD r []).length) (hrise : 0 ≤ I 369 2 ∧ I 369 2 < 100) : mC yX4_length cX4_length 7 (some FieldType.int) 2 [vR (some 360), vI (bg R r + i), vI (bg R r + (R.getD r []).length)] I (some (vI ((wlen R (I 369 2) (R.getD r []) i : Nat) : Int))) (mPc I (pc_ (R.getD r []) i (wlen R (I 369 2) (R.getD r []) i))) := by
  have hb := bg_le hr
  have hfl := hR.flat
  have hrow := hR.row hr
  have hat := fun k => hR.at (i := k) hr
  refine mC.of (by decide) rfl (Nat.le_of_ble_eq_true rfl) (fun G nx => ?_)
  refine x_ls (ls2 := [some (vR (some 360)), some (vI (bg R r + i)), some (vI (bg R r + (R.getD r []).length)), none, none, none, none]) rfl ?_
  generalize hrw : R.getD r [] = row at *
  generalize bg R r = b at *
  obtain ⟨hN, hst, hgo⟩ := wlen_spec R (I 369 2) row hi
  generalize wlen R (I 369 2) row i = N at *
  refine x_iconst dX4_length_0 ?_
  refine x_istore_n dX4_length_1 (by decide) ?_
  refine x_iconst dX4_length_2 ?_
  refine x_istore dX4_length_3 (by decide) ?_
  refine x_iconst dX4_length_5 ?_
  refine x_istore dX4_length_6 (by decide) ?_
  refine x_h (h2 := mh (mPc I (pc_ row i 0))) (by simp only [pc_, List.take_zero, mPc_nil]) ?_
  refine x_loc (ls2 := [some (vR (some 360)), some (vI (b + i)), some (vI (b + row.length)), some (vI (((0 : Nat), (1 : Int), (0 : Int)).1 : Int)), some (vI ((0 : Nat), (1 : Int), (0 : Int)).2.1), some (vI ((0 : Nat), (1 : Int), (0 : Int)).2.2), none]) (by repeat first | exact trivial | refine ⟨Or.inr rfl, ?_⟩ | refine ⟨Or.inl rfl, ?_⟩) ?_
  refine rr_ind (W := fun q : Nat × Int × Int => mm G yX4_length cX4_length 7 (some FieldType.int) 2 nx _ _ 8 [some (vR (some 360)), some (vI (b + i)), some (vI (b + row.length)), some (vI (q.1 : Int)), some (vI q.2.1), some (vI q.2.2), none] [] (mPc I (pc_ row i q.1))) (fun q => 2 * (N - q.1) + q.2.1.toNat) (fun q => (q.2.1 = 1 ∧ q.1 < N ∧ (q.1 = 0 ∨ q.2.2 = nextL R (pc_ row i q.1)) ∧ 0 ≤ q.2.2 ∧ q.2.2 ≤ 33) ∨ (q.2.1 = 0 ∧ q.1 = N)) ?_ (0, 1, 0) (Or.inl ⟨rfl, by simp only; omega, Or.inl rfl, by simp, by simp⟩)
  rintro ⟨n, on, bf⟩ hp ih
  simp only at hp ih
  dsimp only
  refine x_iload dX4_length_8 rfl ?_
  refine x_if_eq (t := 87) dX4_length_10 (by decide) (by rcases hp with h | h <;> omega) (fun c_10 => ?_) (fun c_10 => ?_)
  · skip
    have hn : n = N := by rcases hp with h | h <;> omega
    subst hn
    refine x_iload_n dX4_length_87 rfl ?_
    refine x_iret rfl dX4_length_88 (Nat.le_refl _) (Nat.le_refl _) ?_
    exact ⟨rfl, rfl, rfl⟩
  · skip
    have hp : on = 1 ∧ n < N ∧ (n = 0 ∨ bf = nextL R (pc_ row i n)) ∧ 0 ≤ bf ∧ bf ≤ 33 := hp.resolve_right (fun q => by omega)
    obtain ⟨hon, hnN, hbf, hbf1, hbf2⟩ := hp
    refine x_aload_n dX4_length_13 rfl ?_
    refine m_getA (kf := 24) 24 (a := 375) (by decide) rfl rfl q2139 rfl rfl dX4_length_14 ?_
    refine x_iload_n dX4_length_17 rfl ?_
    refine x_aload_n dX4_length_18 rfl ?_
    refine m_getA (kf := 22) 22 (a := 374) (by decide) rfl rfl q2137 rfl rfl dX4_length_19 ?_
    refine x_iload_n dX4_length_22 rfl ?_
    refine x_iload_n dX4_length_23 rfl ?_
    refine x_iadd dX4_length_24 ?_
    refine m_iald (n := 240) rfl rfl (by decide) (by omega) dX4_length_25 ?_
    rw [mPc_ne I _ (by decide), show b + (i : Int) + n = b + ((i + n : Nat) : Int) by omega, hat (i + n) (by omega)]
    refine m_iast (n := 7) rfl rfl (by decide) (by omega) dX4_length_26 ?_
    rw [show rr_u2 (mPc I (pc_ row i n)) 375 (n : Int) (row.getD (i + n) 0) = mPc I (pc_ row i (n + 1)) from by
      rw [pc_succ (by omega), ← mPc_snoc, pc_len (by omega)]]
    have hnx := nextL_in R (pc_ row i (n + 1))
    have hlen := pc_len (row := row) (i := i) (n := n + 1) (by omega)
    refine x_iinc dX4_length_27 rfl (by decide) ?_
    refine x_aload_n dX4_length_30 rfl ?_
    refine x_iload_n dX4_length_31 rfl ?_
    refine x_top ((pc_ row i (n + 1)).length : Int) (by rw [hlen]; omega) ?_
    refine m_cv1 (c_nextOf (RE_mPc hR _) (PE_mPc I (by omega) (fun c hc => hrow.2 c (pc_mem hc))) (by omega)) fX4_nextOf q2455 (by decide) (Nat.le_of_ble_eq_true rfl) dX4_length_32 ?_
    refine x_istore dX4_length_35 (by decide) ?_
    refine x_iload_n dX4_length_37 rfl ?_
    refine x_iload_n dX4_length_38 rfl ?_
    refine x_iadd dX4_length_39 ?_
    refine x_iload_n dX4_length_40 rfl ?_
    refine x_icmp_ge (t := 77) dX4_length_41 (by decide) (by omega) (fun c_41 => ?_) (fun c_41 => ?_)
    · skip
      refine x_iconst dX4_length_77 ?_
      refine x_top (bi (cont R (I 369 2) row i (n + 1))) (by
        first
        | exact (bi_t (show cont R (I 369 2) row i (n + 1) from ⟨by omega, by omega, by
            first
            | exact Or.inl (by omega)
            | (rw [show n + 1 - 1 = n by omega]; rcases hbf with h0 | h0
               · exact Or.inl (by omega)
               · rw [← h0]; first | exact Or.inr (Or.inl (by omega)) | exact Or.inr (Or.inr (by omega)))⟩)).symm
        | exact (bi_f (show ¬ cont R (I 369 2) row i (n + 1) from fun q => by
            obtain ⟨q1, q2, q3⟩ := q
            rw [show n + 1 - 1 = n by omega] at q3
            rcases hbf with h0 | h0
            · omega
            · rw [← h0] at q3; omega)).symm) ?_
      refine x_istore dX4_length_78 (by decide) ?_
      refine x_iload dX4_length_80 rfl ?_
      refine x_istore dX4_length_82 (by decide) ?_
      refine x_goto (t := 8) dX4_length_84 (by decide) ?_
      have hgo2 := ih (n + 1, bi (cont R (I 369 2) row i (n + 1)), nextL R (pc_ row i (n + 1))) (by
        by_cases hc : cont R (I 369 2) row i (n + 1)
        · refine Or.inl ⟨bi_t hc, ?_, Or.inr rfl, hnx.1, hnx.2⟩
          rcases Nat.lt_or_ge (n + 1) N with q | q
          · exact q
          · exact absurd (show cont R (I 369 2) row i N from by rw [show N = n + 1 by omega]; exact hc) hst
        · refine Or.inr ⟨bi_f hc, ?_⟩
          rcases Nat.lt_or_ge (n + 1) N with q | q
          · exact absurd (hgo (n + 1) (by omega) q) hc
          · simp only; omega) (by have := bi_01 (cont R (I 369 2) row i (n + 1)); simp only; omega)
      exact x_loc (by rw [show ((((n + 1, bi (cont R (I 369 2) row i (n + 1)), nextL R (pc_ row i (n + 1))) : Nat × Int × Int).1 : Nat) : Int) = (n : Int) + 1 by simp only; omega]; exact (by repeat first | exact trivial | refine ⟨Or.inr rfl, ?_⟩ | refine ⟨Or.inl rfl, ?_⟩)) hgo2
    · skip
      refine x_iload_n dX4_length_44 rfl ?_
      refine x_bipush dX4_length_45 (by decide) ?_
      refine x_icmp_ge (t := 77) dX4_length_47 (by decide) (by omega) (fun c_47 => ?_) (fun c_47 => ?_)
      · skip
        refine x_iconst dX4_length_77 ?_
        refine x_top (bi (cont R (I 369 2) row i (n + 1))) (by
          first
          | exact (bi_t (show cont R (I 369 2) row i (n + 1) from ⟨by omega, by omega, by
              first
              | exact Or.inl (by omega)
              | (rw [show n + 1 - 1 = n by omega]; rcases hbf with h0 | h0
                 · exact Or.inl (by omega)
                 · rw [← h0]; first | exact Or.inr (Or.inl (by omega)) | exact Or.inr (Or.inr (by omega)))⟩)).symm
          | exact (bi_f (show ¬ cont R (I 369 2) row i (n + 1) from fun q => by
              obtain ⟨q1, q2, q3⟩ := q
              rw [show n + 1 - 1 = n by omega] at q3
              rcases hbf with h0 | h0
              · omega
              · rw [← h0] at q3; omega)).symm) ?_
        refine x_istore dX4_length_78 (by decide) ?_
        refine x_iload dX4_length_80 rfl ?_
        refine x_istore dX4_length_82 (by decide) ?_
        refine x_goto (t := 8) dX4_length_84 (by decide) ?_
        have hgo2 := ih (n + 1, bi (cont R (I 369 2) row i (n + 1)), nextL R (pc_ row i (n + 1))) (by
          by_cases hc : cont R (I 369 2) row i (n + 1)
          · refine Or.inl ⟨bi_t hc, ?_, Or.inr rfl, hnx.1, hnx.2⟩
            rcases Nat.lt_or_ge (n + 1) N with q | q
            · exact q
            · exact absurd (show cont R (I 369 2) row i N from by rw [show N = n + 1 by omega]; exact hc) hst
          · refine Or.inr ⟨bi_f hc, ?_⟩
            rcases Nat.lt_or_ge (n + 1) N with q | q
            · exact absurd (hgo (n + 1) (by omega) q) hc
            · simp only; omega) (by have := bi_01 (cont R (I 369 2) row i (n + 1)); simp only; omega)
        exact x_loc (by rw [show ((((n + 1, bi (cont R (I 369 2) row i (n + 1)), nextL R (pc_ row i (n + 1))) : Nat × Int × Int).1 : Nat) : Int) = (n : Int) + 1 by simp only; omega]; exact (by repeat first | exact trivial | refine ⟨Or.inr rfl, ?_⟩ | refine ⟨Or.inl rfl, ?_⟩)) hgo2
      · skip
        refine x_iload_n dX4_length_50 rfl ?_
        refine x_iconst dX4_length_51 ?_
        refine x_icmp_lt (t := 73) dX4_length_52 (by decide) (by omega) (fun c_52 => ?_) (fun c_52 => ?_)
        · skip
          refine x_iconst dX4_length_73 ?_
          refine x_goto (t := 78) dX4_length_74 (by decide) ?_
          refine x_top (bi (cont R (I 369 2) row i (n + 1))) (by
            first
            | exact (bi_t (show cont R (I 369 2) row i (n + 1) from ⟨by omega, by omega, by
                first
                | exact Or.inl (by omega)
                | (rw [show n + 1 - 1 = n by omega]; rcases hbf with h0 | h0
                   · exact Or.inl (by omega)
                   · rw [← h0]; first | exact Or.inr (Or.inl (by omega)) | exact Or.inr (Or.inr (by omega)))⟩)).symm
            | exact (bi_f (show ¬ cont R (I 369 2) row i (n + 1) from fun q => by
                obtain ⟨q1, q2, q3⟩ := q
                rw [show n + 1 - 1 = n by omega] at q3
                rcases hbf with h0 | h0
                · omega
                · rw [← h0] at q3; omega)).symm) ?_
          refine x_istore dX4_length_78 (by decide) ?_
          refine x_iload dX4_length_80 rfl ?_
          refine x_istore dX4_length_82 (by decide) ?_
          refine x_goto (t := 8) dX4_length_84 (by decide) ?_
          have hgo2 := ih (n + 1, bi (cont R (I 369 2) row i (n + 1)), nextL R (pc_ row i (n + 1))) (by
            by_cases hc : cont R (I 369 2) row i (n + 1)
            · refine Or.inl ⟨bi_t hc, ?_, Or.inr rfl, hnx.1, hnx.2⟩
              rcases Nat.lt_or_ge (n + 1) N with q | q
              · exact q
              · exact absurd (show cont R (I 369 2) row i N from by rw [show N = n + 1 by omega]; exact hc) hst
            · refine Or.inr ⟨bi_f hc, ?_⟩
              rcases Nat.lt_or_ge (n + 1) N with q | q
              · exact absurd (hgo (n + 1) (by omega) q) hc
              · simp only; omega) (by have := bi_01 (cont R (I 369 2) row i (n + 1)); simp only; omega)
          exact x_loc (by rw [show ((((n + 1, bi (cont R (I 369 2) row i (n + 1)), nextL R (pc_ row i (n + 1))) : Nat × Int × Int).1 : Nat) : Int) = (n : Int) + 1 by simp only; omega]; exact (by repeat first | exact trivial | refine ⟨Or.inr rfl, ?_⟩ | refine ⟨Or.inl rfl, ?_⟩)) hgo2
        · skip
          refine x_iload dX4_length_55 rfl ?_
          refine x_iload dX4_length_57 rfl ?_
          refine x_icmp_le (t := 73) dX4_length_59 (by decide) (by omega) (fun c_59 => ?_) (fun c_59 => ?_)
          · skip
            refine x_iconst dX4_length_73 ?_
            refine x_goto (t := 78) dX4_length_74 (by decide) ?_
            refine x_top (bi (cont R (I 369 2) row i (n + 1))) (by
              first
              | exact (bi_t (show cont R (I 369 2) row i (n + 1) from ⟨by omega, by omega, by
                  first
                  | exact Or.inl (by omega)
                  | (rw [show n + 1 - 1 = n by omega]; rcases hbf with h0 | h0
                     · exact Or.inl (by omega)
                     · rw [← h0]; first | exact Or.inr (Or.inl (by omega)) | exact Or.inr (Or.inr (by omega)))⟩)).symm
              | exact (bi_f (show ¬ cont R (I 369 2) row i (n + 1) from fun q => by
                  obtain ⟨q1, q2, q3⟩ := q
                  rw [show n + 1 - 1 = n by omega] at q3
                  rcases hbf with h0 | h0
                  · omega
                  · rw [← h0] at q3; omega)).symm) ?_
            refine x_istore dX4_length_78 (by decide) ?_
            refine x_iload dX4_length_80 rfl ?_
            refine x_istore dX4_length_82 (by decide) ?_
            refine x_goto (t := 8) dX4_length_84 (by decide) ?_
            have hgo2 := ih (n + 1, bi (cont R (I 369 2) row i (n + 1)), nextL R (pc_ row i (n + 1))) (by
              by_cases hc : cont R (I 369 2) row i (n + 1)
              · refine Or.inl ⟨bi_t hc, ?_, Or.inr rfl, hnx.1, hnx.2⟩
                rcases Nat.lt_or_ge (n + 1) N with q | q
                · exact q
                · exact absurd (show cont R (I 369 2) row i N from by rw [show N = n + 1 by omega]; exact hc) hst
              · refine Or.inr ⟨bi_f hc, ?_⟩
                rcases Nat.lt_or_ge (n + 1) N with q | q
                · exact absurd (hgo (n + 1) (by omega) q) hc
                · simp only; omega) (by have := bi_01 (cont R (I 369 2) row i (n + 1)); simp only; omega)
            exact x_loc (by rw [show ((((n + 1, bi (cont R (I 369 2) row i (n + 1)), nextL R (pc_ row i (n + 1))) : Nat × Int × Int).1 : Nat) : Int) = (n : Int) + 1 by simp only; omega]; exact (by repeat first | exact trivial | refine ⟨Or.inr rfl, ?_⟩ | refine ⟨Or.inl rfl, ?_⟩)) hgo2
          · skip
            refine x_iload dX4_length_62 rfl ?_
            refine x_aload_n dX4_length_64 rfl ?_
            refine m_getA (kf := 15) 15 (a := 369) (by decide) rfl rfl q2130 rfl rfl dX4_length_65 ?_
            refine x_iconst dX4_length_68 ?_
            refine m_iald (n := 460) rfl rfl (by decide) (by omega) dX4_length_69 ?_
            rw [mPc_ne I _ (by decide)]
            refine x_icmp_ge (t := 77) dX4_length_70 (by decide) (by omega) (fun c_70 => ?_) (fun c_70 => ?_)
            · skip
              refine x_iconst dX4_length_77 ?_
              refine x_top (bi (cont R (I 369 2) row i (n + 1))) (by
                first
                | exact (bi_t (show cont R (I 369 2) row i (n + 1) from ⟨by omega, by omega, by
                    first
                    | exact Or.inl (by omega)
                    | (rw [show n + 1 - 1 = n by omega]; rcases hbf with h0 | h0
                       · exact Or.inl (by omega)
                       · rw [← h0]; first | exact Or.inr (Or.inl (by omega)) | exact Or.inr (Or.inr (by omega)))⟩)).symm
                | exact (bi_f (show ¬ cont R (I 369 2) row i (n + 1) from fun q => by
                    obtain ⟨q1, q2, q3⟩ := q
                    rw [show n + 1 - 1 = n by omega] at q3
                    rcases hbf with h0 | h0
                    · omega
                    · rw [← h0] at q3; omega)).symm) ?_
              refine x_istore dX4_length_78 (by decide) ?_
              refine x_iload dX4_length_80 rfl ?_
              refine x_istore dX4_length_82 (by decide) ?_
              refine x_goto (t := 8) dX4_length_84 (by decide) ?_
              have hgo2 := ih (n + 1, bi (cont R (I 369 2) row i (n + 1)), nextL R (pc_ row i (n + 1))) (by
                by_cases hc : cont R (I 369 2) row i (n + 1)
                · refine Or.inl ⟨bi_t hc, ?_, Or.inr rfl, hnx.1, hnx.2⟩
                  rcases Nat.lt_or_ge (n + 1) N with q | q
                  · exact q
                  · exact absurd (show cont R (I 369 2) row i N from by rw [show N = n + 1 by omega]; exact hc) hst
                · refine Or.inr ⟨bi_f hc, ?_⟩
                  rcases Nat.lt_or_ge (n + 1) N with q | q
                  · exact absurd (hgo (n + 1) (by omega) q) hc
                  · simp only; omega) (by have := bi_01 (cont R (I 369 2) row i (n + 1)); simp only; omega)
              exact x_loc (by rw [show ((((n + 1, bi (cont R (I 369 2) row i (n + 1)), nextL R (pc_ row i (n + 1))) : Nat × Int × Int).1 : Nat) : Int) = (n : Int) + 1 by simp only; omega]; exact (by repeat first | exact trivial | refine ⟨Or.inr rfl, ?_⟩ | refine ⟨Or.inl rfl, ?_⟩)) hgo2
            · skip
              refine x_iconst dX4_length_73 ?_
              refine x_goto (t := 78) dX4_length_74 (by decide) ?_
              refine x_top (bi (cont R (I 369 2) row i (n + 1))) (by
                first
                | exact (bi_t (show cont R (I 369 2) row i (n + 1) from ⟨by omega, by omega, by
                    first
                    | exact Or.inl (by omega)
                    | (rw [show n + 1 - 1 = n by omega]; rcases hbf with h0 | h0
                       · exact Or.inl (by omega)
                       · rw [← h0]; first | exact Or.inr (Or.inl (by omega)) | exact Or.inr (Or.inr (by omega)))⟩)).symm
                | exact (bi_f (show ¬ cont R (I 369 2) row i (n + 1) from fun q => by
                    obtain ⟨q1, q2, q3⟩ := q
                    rw [show n + 1 - 1 = n by omega] at q3
                    rcases hbf with h0 | h0
                    · omega
                    · rw [← h0] at q3; omega)).symm) ?_
              refine x_istore dX4_length_78 (by decide) ?_
              refine x_iload dX4_length_80 rfl ?_
              refine x_istore dX4_length_82 (by decide) ?_
              refine x_goto (t := 8) dX4_length_84 (by decide) ?_
              have hgo2 := ih (n + 1, bi (cont R (I 369 2) row i (n + 1)), nextL R (pc_ row i (n + 1))) (by
                by_cases hc : cont R (I 369 2) row i (n + 1)
                · refine Or.inl ⟨bi_t hc, ?_, Or.inr rfl, hnx.1, hnx.2⟩
                  rcases Nat.lt_or_ge (n + 1) N with q | q
                  · exact q
                  · exact absurd (show cont R (I 369 2) row i N from by rw [show N = n + 1 by omega]; exact hc) hst
                · refine Or.inr ⟨bi_f hc, ?_⟩
                  rcases Nat.lt_or_ge (n + 1) N with q | q
                  · exact absurd (hgo (n + 1) (by omega) q) hc
                  · simp only; omega) (by have := bi_01 (cont R (I 369 2) row i (n + 1)); simp only; omega)
              exact x_loc (by rw [show ((((n + 1, bi (cont R (I 369 2) row i (n + 1)), nextL R (pc_ row i (n + 1))) : Nat × Int × Int).1 : Nat) : Int) = (n : Int) + 1 by simp only; omega]; exact (by repeat first | exact trivial | refine ⟨Or.inr rfl, ?_⟩ | refine ⟨Or.inl rfl, ?_⟩)) hgo2
