set_option maxRecDepth 100000
/-! THE MODEL's methods, 6: rows -/
theorem bcx_in (z : Int) : 0 ≤ bcx z ∧ bcx z ≤ 63 := by
  unfold bcx rr_and
  have h := pk_and (Int32.ofInt (bc5 z)) (m := Int32.ofInt 63) 6 (by decide)
  have h2 := Nat.mod_lt (Int32.ofInt (bc5 z)).toBitVec.toNat (show 0 < 2 ^ 6 by decide)
  rw [h, nI_toInt (by omega)]
  omega
/-- a row of a stone -/
def RowOK (I : Nat → Int → Int) (w : Int) : Prop := (1 ≤ I 365 w ∧ I 365 w ≤ 10) ∧ (∀ k, 0 ≤ k → k < I 365 w → -1 ≤ I 366 (10 * w + k) ∧ I 366 (10 * w + k) < I 360 4) ∧ ∃ k, (0 ≤ k ∧ k < I 365 w) ∧ I 366 (10 * w + k) ≠ -1
def StOK (I : Nat → Int → Int) : Prop := (0 ≤ I 360 8 ∧ I 360 8 ≤ 6) ∧ (0 ≤ I 360 4 ∧ I 360 4 ≤ 20) ∧ ∀ t, 0 ≤ t → t < I 360 8 → (1 ≤ I 364 t ∧ I 364 t ≤ 4) ∧ ∀ r, 0 ≤ r → r < I 364 t → RowOK I (4 * t + r)
/-- how many places are empty ahead, behind -/
def lft (I : Nat → Int → Int) (w : Int) : Int := skip (fun k => k < 10 ∧ I 366 (10 * w + k) = -1) 0
def rgt (I : Nat → Int → Int) (w : Int) : Int := skip (fun k => k < 10 ∧ I 366 (10 * w + I 365 w - 1 - k) = -1) 0
theorem lft_sk (I : Nat → Int → Int) (w : Int) : Sk (fun k => k < 10 ∧ I 366 (10 * w + k) = -1) 0 (lft I w) := skip_spec _ (fun q h z => by omega) (Int.le_refl 0)
theorem rgt_sk (I : Nat → Int → Int) (w : Int) : Sk (fun k => k < 10 ∧ I 366 (10 * w + I 365 w - 1 - k) = -1) 0 (rgt I w) := skip_spec _ (fun q h z => by omega) (Int.le_refl 0)
theorem lft_in {I : Nat → Int → Int} {w : Int} (h : RowOK I w) : (0 ≤ lft I w ∧ lft I w < I 365 w) ∧ I 366 (10 * w + lft I w) ≠ -1 := by
  obtain ⟨h1, h2, k, hk, hne⟩ := h
  obtain ⟨s1, s2, s3⟩ := lft_sk I w
  have : lft I w ≤ k := by
    rcases Int.lt_or_le k (lft I w) with q | q
    · exact absurd (s3 k hk.1 q).2 hne
    · exact q
  exact ⟨by omega, fun z => s2 ⟨by omega, z⟩⟩
theorem rgt_in {I : Nat → Int → Int} {w : Int} (h : RowOK I w) : (0 ≤ rgt I w ∧ rgt I w < I 365 w) ∧ I 366 (10 * w + I 365 w - 1 - rgt I w) ≠ -1 := by
  obtain ⟨h1, h2, k, hk, hne⟩ := h
  obtain ⟨s1, s2, s3⟩ := rgt_sk I w
  have : rgt I w ≤ I 365 w - 1 - k := by
    rcases Int.lt_or_le (I 365 w - 1 - k) (rgt I w) with q | q
    · have := (s3 (I 365 w - 1 - k) (by omega) q).2
      rw [show 10 * w + I 365 w - 1 - (I 365 w - 1 - k) = 10 * w + k by omega] at this
      exact absurd this hne
    · exact q
  exact ⟨by omega, fun z => s2 ⟨by omega, z⟩⟩
/-- a stone's last row is ragged -/
def rag (I : Nat → Int → Int) (side t : Int) : Prop := 1 < I 364 t ∧ (if side = 0 then lft I (4 * t + I 364 t - 1) < rgt I (4 * t + I 364 t - 1) else rgt I (4 * t + I 364 t - 1) < lft I (4 * t + I 364 t - 1))
noncomputable def m_ragged (I : Nat → Int → Int) (side : Int) : Int := cnt (rag I side) (I 360 8)
theorem c_ragged {I : Nat → Int → Int} {side : Int} (hs : side = 0 ∨ side = 1) (h : StOK I) : mC yX4_ragged cX4_ragged 7 (some FieldType.int) 1 [vR (some 360), vI side] I (some (vI (m_ragged I side))) I := by
  refine mC.of (by decide) rfl (Nat.le_of_ble_eq_true rfl) (fun G nx => ?_)
  refine x_ls (ls2 := [some (vR (some 360)), some (vI side), none, none, none, none, none]) rfl ?_
  have h8 := h.1
  have h4 := h.2.1
  unfold m_ragged
  refine x_iconst dX4_ragged_0 ?_
  refine x_istore_n dX4_ragged_1 (by decide) ?_
  refine x_iconst dX4_ragged_2 ?_
  refine x_istore_n dX4_ragged_3 (by decide) ?_
  refine x_loc (ls2 := [some (vR (some 360)), some (vI side), some (vI (cnt (rag I side) 0)), some (vI 0), none, none, none]) (by rw [cnt_0]; exact (by repeat first | exact trivial | refine ⟨Or.inr rfl, ?_⟩ | refine ⟨Or.inl rfl, ?_⟩)) ?_
  refine rr_ind (W := fun t => mm G yX4_ragged cX4_ragged 7 (some FieldType.int) 1 nx _ _ 4 [some (vR (some 360)), some (vI side), some (vI (cnt (rag I side) t)), some (vI t), none, none, none] [] I) (fun t => (I 360 8 - t).toNat) (fun t => 0 ≤ t ∧ t ≤ I 360 8) ?_ 0 (by omega)
  intro t ht ih
  have hc := cnt_in (rag I side) ht.1
  have hst : t < I 360 8 → (1 ≤ I 364 t ∧ I 364 t ≤ 4) ∧ RowOK I (4 * t + I 364 t - 1) := fun q => by
    obtain ⟨a, b⟩ := h.2.2 t ht.1 q
    have := b (I 364 t - 1) (by omega) (by omega)
    rw [show 4 * t + (I 364 t - 1) = 4 * t + I 364 t - 1 by omega] at this
    exact ⟨a, this⟩
  refine x_iload_n dX4_ragged_4 rfl ?_
  refine x_aload_n dX4_ragged_5 rfl ?_
  refine m_getI (kf := 8) 8 (by decide) rfl rfl q2123 rfl dX4_ragged_6 ?_
  refine x_icmp_ge (t := 136) dX4_ragged_9 (by decide) (by omega) (fun c_9 => ?_) (fun c_9 => ?_)
  · skip
    refine x_iload_n dX4_ragged_136 rfl ?_
    refine x_iret rfl dX4_ragged_137 (Nat.le_refl _) (Nat.le_refl _) ?_
    exact ⟨by rw [show t = I 360 8 by omega], rfl, rfl⟩
  · skip
    have hst := hst (by omega)
    have hw1 := hst.2.1
    have hl := lft_in hst.2
    have hr := rgt_in hst.2
    have sl := lft_sk I (4 * t + I 364 t - 1)
    have sr := rgt_sk I (4 * t + I 364 t - 1)
    refine x_iconst dX4_ragged_12 ?_
    refine x_iload_n dX4_ragged_13 rfl ?_
    refine x_imul dX4_ragged_14 ?_
    refine x_aload_n dX4_ragged_15 rfl ?_
    refine m_getA (kf := 9) 9 (a := 364) (by decide) rfl rfl q2124 rfl rfl dX4_ragged_16 ?_
    refine x_iload_n dX4_ragged_19 rfl ?_
    refine m_iald (n := 7) rfl rfl (by decide) (by omega) dX4_ragged_20 ?_
    refine x_iadd dX4_ragged_21 ?_
    refine x_iconst dX4_ragged_22 ?_
    refine x_isub dX4_ragged_23 ?_
    refine x_istore dX4_ragged_24 (by decide) ?_
    refine x_iconst dX4_ragged_26 ?_
    refine x_istore dX4_ragged_27 (by decide) ?_
    refine rr_ind (W := fun k => mm G yX4_ragged cX4_ragged 7 (some FieldType.int) 1 nx _ _ 29 [some (vR (some 360)), some (vI side), some (vI (cnt (rag I side) t)), some (vI t), some (vI (4 * t + I 364 t - 1)), some (vI k), none] [] I) (fun k => (lft I (4 * t + I 364 t - 1) - k).toNat) (fun k => 0 ≤ k ∧ k ≤ lft I (4 * t + I 364 t - 1)) ?_ 0 (by omega)
    intro k hk ih2
    have hv := hst.2.2.1 k hk.1 (by omega)
    have hlt : k < lft I (4 * t + I 364 t - 1) → I 366 (10 * (4 * t + I 364 t - 1) + k) = -1 := fun q => (sl.2.2 k hk.1 q).2
    have heq : k = lft I (4 * t + I 364 t - 1) → I 366 (10 * (4 * t + I 364 t - 1) + k) ≠ -1 := fun q => by rw [q]; exact hl.2
    refine x_aload_n dX4_ragged_29 rfl ?_
    refine m_getA (kf := 11) 11 (a := 366) (by decide) rfl rfl q2126 rfl rfl dX4_ragged_30 ?_
    refine x_bipush dX4_ragged_33 (by decide) ?_
    refine x_iload dX4_ragged_35 rfl ?_
    refine x_imul dX4_ragged_37 ?_
    refine x_iload dX4_ragged_38 rfl ?_
    refine x_iadd dX4_ragged_40 ?_
    refine m_iald (n := 280) rfl rfl (by decide) (by omega) dX4_ragged_41 ?_
    refine x_iconst dX4_ragged_42 ?_
    refine x_icmp_ne (t := 52) dX4_ragged_43 (by decide) (by omega) (fun c_43 => ?_) (fun c_43 => ?_)
    · skip
      have hk2 : k = lft I (4 * t + I 364 t - 1) := by
        rcases Int.lt_or_le k (lft I (4 * t + I 364 t - 1)) with q | q
        · exact absurd (hlt q) c_43
        · omega
      clear hlt heq ih2
      subst hk2
      refine x_iconst dX4_ragged_52 ?_
      refine x_istore dX4_ragged_53 (by decide) ?_
      generalize hL : lft I (4 * t + I 364 t - 1) = L at *
      refine rr_ind (W := fun k => mm G yX4_ragged cX4_ragged 7 (some FieldType.int) 1 nx _ _ 55 [some (vR (some 360)), some (vI side), some (vI (cnt (rag I side) t)), some (vI t), some (vI (4 * t + I 364 t - 1)), some (vI L), some (vI k)] [] I) (fun k => (rgt I (4 * t + I 364 t - 1) - k).toNat) (fun k => 0 ≤ k ∧ k ≤ rgt I (4 * t + I 364 t - 1)) ?_ 0 (by omega)
      intro k hk ih3
      have hv := hst.2.2.1 (I 365 (4 * t + I 364 t - 1) - 1 - k) (by omega) (by omega)
      rw [show 10 * (4 * t + I 364 t - 1) + (I 365 (4 * t + I 364 t - 1) - 1 - k) = 10 * (4 * t + I 364 t - 1) + I 365 (4 * t + I 364 t - 1) - 1 - k by omega] at hv
      have hlt : k < rgt I (4 * t + I 364 t - 1) → I 366 (10 * (4 * t + I 364 t - 1) + I 365 (4 * t + I 364 t - 1) - 1 - k) = -1 := fun q => (sr.2.2 k hk.1 q).2
      have heq : k = rgt I (4 * t + I 364 t - 1) → I 366 (10 * (4 * t + I 364 t - 1) + I 365 (4 * t + I 364 t - 1) - 1 - k) ≠ -1 := fun q => by rw [q]; exact hr.2
      refine x_aload_n dX4_ragged_55 rfl ?_
      refine m_getA (kf := 11) 11 (a := 366) (by decide) rfl rfl q2126 rfl rfl dX4_ragged_56 ?_
      refine x_bipush dX4_ragged_59 (by decide) ?_
      refine x_iload dX4_ragged_61 rfl ?_
      refine x_imul dX4_ragged_63 ?_
      refine x_aload_n dX4_ragged_64 rfl ?_
      refine m_getA (kf := 10) 10 (a := 365) (by decide) rfl rfl q2125 rfl rfl dX4_ragged_65 ?_
      refine x_iload dX4_ragged_68 rfl ?_
      refine m_iald (n := 28) rfl rfl (by decide) (by omega) dX4_ragged_70 ?_
      refine x_iadd dX4_ragged_71 ?_
      refine x_iconst dX4_ragged_72 ?_
      refine x_isub dX4_ragged_73 ?_
      refine x_iload dX4_ragged_74 rfl ?_
      refine x_isub dX4_ragged_76 ?_
      refine m_iald (n := 280) rfl rfl (by decide) (by omega) dX4_ragged_77 ?_
      refine x_iconst dX4_ragged_78 ?_
      refine x_icmp_ne (t := 88) dX4_ragged_79 (by decide) (by omega) (fun c_79 => ?_) (fun c_79 => ?_)
      · skip
        have hk2 : k = rgt I (4 * t + I 364 t - 1) := by
          rcases Int.lt_or_le k (rgt I (4 * t + I 364 t - 1)) with q | q
          · exact absurd (hlt q) c_79
          · omega
        refine x_iload_n dX4_ragged_88 rfl ?_
        refine x_aload_n dX4_ragged_89 rfl ?_
        refine m_getA (kf := 9) 9 (a := 364) (by decide) rfl rfl q2124 rfl rfl dX4_ragged_90 ?_
        refine x_iload_n dX4_ragged_93 rfl ?_
        refine m_iald (n := 7) rfl rfl (by decide) (by omega) dX4_ragged_94 ?_
        refine x_iconst dX4_ragged_95 ?_
        refine x_icmp_le (t := 124) dX4_ragged_96 (by decide) (by omega) (fun c_96 => ?_) (fun c_96 => ?_)
        · skip
          refine x_iconst dX4_ragged_124 ?_
          refine x_top (bi (rag I side t)) (by first | exact (bi_f (fun q => by unfold rag at q; rw [hL] at q; split at q <;> omega)).symm | exact (bi_t (by unfold rag; rw [hL]; split <;> omega)).symm) ?_
          refine m_cs1 (c_truth) fX4_truth q2327 (by decide) (Nat.le_of_ble_eq_true rfl) dX4_ragged_125 ?_
          refine x_iadd dX4_ragged_128 ?_
          rw [← cnt_up (rag I side) ht.1]
          refine x_istore_n dX4_ragged_129 (by decide) ?_
          refine x_iinc dX4_ragged_130 rfl (by decide) ?_
          refine x_goto (t := 4) dX4_ragged_133 (by decide) ?_
          exact x_loc (by repeat first | exact trivial | refine ⟨Or.inr rfl, ?_⟩ | refine ⟨Or.inl rfl, ?_⟩) (ih (t + 1) (by omega) (by omega))
        · skip
          refine x_iload_n dX4_ragged_99 rfl ?_
          refine x_if_ne (t := 113) dX4_ragged_100 (by decide) (by omega) (fun c_100 => ?_) (fun c_100 => ?_)
          · skip
            refine x_iload dX4_ragged_113 rfl ?_
            refine x_iload dX4_ragged_115 rfl ?_
            refine x_icmp_le (t := 124) dX4_ragged_117 (by decide) (by omega) (fun c_117 => ?_) (fun c_117 => ?_)
            · skip
              refine x_iconst dX4_ragged_124 ?_
              refine x_top (bi (rag I side t)) (by first | exact (bi_f (fun q => by unfold rag at q; rw [hL] at q; split at q <;> omega)).symm | exact (bi_t (by unfold rag; rw [hL]; split <;> omega)).symm) ?_
              refine m_cs1 (c_truth) fX4_truth q2327 (by decide) (Nat.le_of_ble_eq_true rfl) dX4_ragged_125 ?_
              refine x_iadd dX4_ragged_128 ?_
              rw [← cnt_up (rag I side) ht.1]
              refine x_istore_n dX4_ragged_129 (by decide) ?_
              refine x_iinc dX4_ragged_130 rfl (by decide) ?_
              refine x_goto (t := 4) dX4_ragged_133 (by decide) ?_
              exact x_loc (by repeat first | exact trivial | refine ⟨Or.inr rfl, ?_⟩ | refine ⟨Or.inl rfl, ?_⟩) (ih (t + 1) (by omega) (by omega))
            · skip
              refine x_iconst dX4_ragged_120 ?_
              refine x_goto (t := 125) dX4_ragged_121 (by decide) ?_
              refine x_top (bi (rag I side t)) (by first | exact (bi_f (fun q => by unfold rag at q; rw [hL] at q; split at q <;> omega)).symm | exact (bi_t (by unfold rag; rw [hL]; split <;> omega)).symm) ?_
              refine m_cs1 (c_truth) fX4_truth q2327 (by decide) (Nat.le_of_ble_eq_true rfl) dX4_ragged_125 ?_
              refine x_iadd dX4_ragged_128 ?_
              rw [← cnt_up (rag I side) ht.1]
              refine x_istore_n dX4_ragged_129 (by decide) ?_
              refine x_iinc dX4_ragged_130 rfl (by decide) ?_
              refine x_goto (t := 4) dX4_ragged_133 (by decide) ?_
              exact x_loc (by repeat first | exact trivial | refine ⟨Or.inr rfl, ?_⟩ | refine ⟨Or.inl rfl, ?_⟩) (ih (t + 1) (by omega) (by omega))
          · skip
            refine x_iload dX4_ragged_103 rfl ?_
            refine x_iload dX4_ragged_105 rfl ?_
            refine x_icmp_le (t := 124) dX4_ragged_107 (by decide) (by omega) (fun c_107 => ?_) (fun c_107 => ?_)
            · skip
              refine x_iconst dX4_ragged_124 ?_
              refine x_top (bi (rag I side t)) (by first | exact (bi_f (fun q => by unfold rag at q; rw [hL] at q; split at q <;> omega)).symm | exact (bi_t (by unfold rag; rw [hL]; split <;> omega)).symm) ?_
              refine m_cs1 (c_truth) fX4_truth q2327 (by decide) (Nat.le_of_ble_eq_true rfl) dX4_ragged_125 ?_
              refine x_iadd dX4_ragged_128 ?_
              rw [← cnt_up (rag I side) ht.1]
              refine x_istore_n dX4_ragged_129 (by decide) ?_
              refine x_iinc dX4_ragged_130 rfl (by decide) ?_
              refine x_goto (t := 4) dX4_ragged_133 (by decide) ?_
              exact x_loc (by repeat first | exact trivial | refine ⟨Or.inr rfl, ?_⟩ | refine ⟨Or.inl rfl, ?_⟩) (ih (t + 1) (by omega) (by omega))
            · skip
              refine x_goto (t := 120) dX4_ragged_110 (by decide) ?_
              refine x_iconst dX4_ragged_120 ?_
              refine x_goto (t := 125) dX4_ragged_121 (by decide) ?_
              refine x_top (bi (rag I side t)) (by first | exact (bi_f (fun q => by unfold rag at q; rw [hL] at q; split at q <;> omega)).symm | exact (bi_t (by unfold rag; rw [hL]; split <;> omega)).symm) ?_
              refine m_cs1 (c_truth) fX4_truth q2327 (by decide) (Nat.le_of_ble_eq_true rfl) dX4_ragged_125 ?_
              refine x_iadd dX4_ragged_128 ?_
              rw [← cnt_up (rag I side) ht.1]
              refine x_istore_n dX4_ragged_129 (by decide) ?_
              refine x_iinc dX4_ragged_130 rfl (by decide) ?_
              refine x_goto (t := 4) dX4_ragged_133 (by decide) ?_
              exact x_loc (by repeat first | exact trivial | refine ⟨Or.inr rfl, ?_⟩ | refine ⟨Or.inl rfl, ?_⟩) (ih (t + 1) (by omega) (by omega))
      · skip
        have hk2 : k < rgt I (4 * t + I 364 t - 1) := by
          rcases Int.lt_or_le k (rgt I (4 * t + I 364 t - 1)) with q | q
          · exact q
          · exact absurd c_79 (heq (by omega))
        refine x_iinc dX4_ragged_82 rfl (by decide) ?_
        refine x_goto (t := 55) dX4_ragged_85 (by decide) ?_
        exact ih3 (k + 1) (by omega) (by omega)
    · skip
      have hk2 : k < lft I (4 * t + I 364 t - 1) := by
        rcases Int.lt_or_le k (lft I (4 * t + I 364 t - 1)) with q | q
        · exact q
        · exact absurd c_43 (heq (by omega))
      refine x_iinc dX4_ragged_46 rfl (by decide) ?_
      refine x_goto (t := 29) dX4_ragged_49 (by decide) ?_
      exact ih2 (k + 1) (by omega) (by omega)
/-- the sign at a row's end -/
def endK (I : Nat → Int → Int) (w side : Int) : Int := if side = 0 then I 365 w - 1 - rgt I w else lft I w
def m_endOf (I : Nat → Int → Int) (w side : Int) : Int := I 371 (I 366 (10 * w + endK I w side))
theorem c_endOf {I : Nat → Int → Int} {w side : Int} (hs : side = 0 ∨ side = 1) (hw : 0 ≤ w ∧ w < 28) (h4 : 0 ≤ I 360 4 ∧ I 360 4 ≤ 20) (h : RowOK I w) : mC yX4_endOf cX4_endOf 4 (some FieldType.int) 0 [vR (some 360), vI w, vI side] I (some (vI (m_endOf I w side))) I := by
  have hl := lft_in h
  have hr := rgt_in h
  have sl := lft_sk I w
  have sr := rgt_sk I w
  have hw1 := h.1
  refine mC.of (by decide) rfl (Nat.le_of_ble_eq_true rfl) (fun G nx => ?_)
  refine x_ls (ls2 := [some (vR (some 360)), some (vI w), some (vI side), none]) rfl ?_
  unfold m_endOf endK
  refine x_iload_n dX4_endOf_0 rfl ?_
  refine x_if_ne (t := 15) dX4_endOf_1 (by decide) (by omega) (fun c_1 => ?_) (fun c_1 => ?_)
  · skip
    rw [if_neg c_1]
    refine x_iconst dX4_endOf_15 ?_
    refine x_istore_n dX4_endOf_16 (by decide) ?_
    refine rr_ind (W := fun k => mm G yX4_endOf cX4_endOf 4 (some FieldType.int) 0 nx _ _ 17 [some (vR (some 360)), some (vI w), some (vI side), some (vI k)] [] I) (fun k => (lft I w - k).toNat) (fun k => 0 ≤ k ∧ k ≤ lft I w) ?_ 0 (by omega)
    intro k hk ih2
    have hv := h.2.1 k hk.1 (by omega)
    have hlt : k < lft I w → I 366 (10 * w + k) = -1 := fun q => (sl.2.2 k hk.1 q).2
    have heq : k = lft I w → I 366 (10 * w + k) ≠ -1 := fun q => by rw [q]; exact hl.2
    refine x_aload_n dX4_endOf_17 rfl ?_
    refine m_getA (kf := 11) 11 (a := 366) (by decide) rfl rfl q2126 rfl rfl dX4_endOf_18 ?_
    refine x_bipush dX4_endOf_21 (by decide) ?_
    refine x_iload_n dX4_endOf_23 rfl ?_
    refine x_imul dX4_endOf_24 ?_
    refine x_iload_n dX4_endOf_25 rfl ?_
    refine x_iadd dX4_endOf_26 ?_
    refine m_iald (n := 280) rfl rfl (by decide) (by omega) dX4_endOf_27 ?_
    refine x_iconst dX4_endOf_28 ?_
    refine x_icmp_ne (t := 47) dX4_endOf_29 (by decide) (by omega) (fun c_29 => ?_) (fun c_29 => ?_)
    · skip
      have hk2 : k = lft I w := by
        rcases Int.lt_or_le k (lft I w) with q | q
        · exact absurd (hlt q) c_29
        · omega
      refine x_aload_n dX4_endOf_47 rfl ?_
      refine m_getA (kf := 18) 18 (a := 371) (by decide) rfl rfl q2133 rfl rfl dX4_endOf_48 ?_
      refine x_aload_n dX4_endOf_51 rfl ?_
      refine m_getA (kf := 11) 11 (a := 366) (by decide) rfl rfl q2126 rfl rfl dX4_endOf_52 ?_
      refine x_bipush dX4_endOf_55 (by decide) ?_
      refine x_iload_n dX4_endOf_57 rfl ?_
      refine x_imul dX4_endOf_58 ?_
      refine x_iload_n dX4_endOf_59 rfl ?_
      refine x_iadd dX4_endOf_60 ?_
      refine m_iald (n := 280) rfl rfl (by decide) (by omega) dX4_endOf_61 ?_
      refine m_iald (n := 20) rfl rfl (by decide) (by omega) dX4_endOf_62 ?_
      refine x_iret rfl dX4_endOf_63 (Nat.le_refl _) (Nat.le_refl _) ?_
      exact ⟨by rw [hk2], rfl, rfl⟩
    · skip
      have hk2 : k < lft I w := by
        rcases Int.lt_or_le k (lft I w) with q | q
        · exact q
        · exact absurd c_29 (heq (by omega))
      refine x_iload_n dX4_endOf_32 rfl ?_
      refine x_iload_n dX4_endOf_33 rfl ?_
      refine x_if_ne (t := 41) dX4_endOf_34 (by decide) (by omega) (fun c_34 => ?_) (fun c_34 => absurd c_34 (c_1))
      refine x_iconst dX4_endOf_41 ?_
      refine x_iadd dX4_endOf_42 ?_
      refine x_istore_n dX4_endOf_43 (by decide) ?_
      refine x_goto (t := 17) dX4_endOf_44 (by decide) ?_
      exact ih2 (k + 1) (by omega) (by omega)
  · skip
    rw [if_pos c_1]
    refine x_aload_n dX4_endOf_4 rfl ?_
    refine m_getA (kf := 10) 10 (a := 365) (by decide) rfl rfl q2125 rfl rfl dX4_endOf_5 ?_
    refine x_iload_n dX4_endOf_8 rfl ?_
    refine m_iald (n := 28) rfl rfl (by decide) (by omega) dX4_endOf_9 ?_
    refine x_iconst dX4_endOf_10 ?_
    refine x_isub dX4_endOf_11 ?_
    refine x_goto (t := 16) dX4_endOf_12 (by decide) ?_
    refine x_istore_n dX4_endOf_16 (by decide) ?_
    refine rr_ind (W := fun k => mm G yX4_endOf cX4_endOf 4 (some FieldType.int) 0 nx _ _ 17 [some (vR (some 360)), some (vI w), some (vI side), some (vI k)] [] I) (fun k => (k - (I 365 w - 1 - rgt I w)).toNat) (fun k => k < I 365 w ∧ I 365 w - 1 - rgt I w ≤ k) ?_ (I 365 w - 1) (by omega)
    intro k hk ih2
    have hv := h.2.1 k (by omega) (by omega)
    have hlt : I 365 w - 1 - rgt I w < k → I 366 (10 * w + k) = -1 := fun q => by
      have := (sr.2.2 (I 365 w - 1 - k) (by omega) (by omega)).2
      rw [show 10 * w + I 365 w - 1 - (I 365 w - 1 - k) = 10 * w + k by omega] at this
      exact this
    have heq : k = I 365 w - 1 - rgt I w → I 366 (10 * w + k) ≠ -1 := fun q => by
      have := hr.2
      rw [show 10 * w + I 365 w - 1 - rgt I w = 10 * w + k by omega] at this
      exact this
    refine x_aload_n dX4_endOf_17 rfl ?_
    refine m_getA (kf := 11) 11 (a := 366) (by decide) rfl rfl q2126 rfl rfl dX4_endOf_18 ?_
    refine x_bipush dX4_endOf_21 (by decide) ?_
    refine x_iload_n dX4_endOf_23 rfl ?_
    refine x_imul dX4_endOf_24 ?_
    refine x_iload_n dX4_endOf_25 rfl ?_
    refine x_iadd dX4_endOf_26 ?_
    refine m_iald (n := 280) rfl rfl (by decide) (by omega) dX4_endOf_27 ?_
    refine x_iconst dX4_endOf_28 ?_
    refine x_icmp_ne (t := 47) dX4_endOf_29 (by decide) (by omega) (fun c_29 => ?_) (fun c_29 => ?_)
    · skip
      have hk2 : k = I 365 w - 1 - rgt I w := by
        rcases Int.lt_or_le (I 365 w - 1 - rgt I w) k with q | q
        · exact absurd (hlt q) c_29
        · omega
      refine x_aload_n dX4_endOf_47 rfl ?_
      refine m_getA (kf := 18) 18 (a := 371) (by decide) rfl rfl q2133 rfl rfl dX4_endOf_48 ?_
      refine x_aload_n dX4_endOf_51 rfl ?_
      refine m_getA (kf := 11) 11 (a := 366) (by decide) rfl rfl q2126 rfl rfl dX4_endOf_52 ?_
      refine x_bipush dX4_endOf_55 (by decide) ?_
      refine x_iload_n dX4_endOf_57 rfl ?_
      refine x_imul dX4_endOf_58 ?_
      refine x_iload_n dX4_endOf_59 rfl ?_
      refine x_iadd dX4_endOf_60 ?_
      refine m_iald (n := 280) rfl rfl (by decide) (by omega) dX4_endOf_61 ?_
      refine m_iald (n := 20) rfl rfl (by decide) (by omega) dX4_endOf_62 ?_
      refine x_iret rfl dX4_endOf_63 (Nat.le_refl _) (Nat.le_refl _) ?_
      exact ⟨by rw [hk2], rfl, rfl⟩
    · skip
      have hk2 : I 365 w - 1 - rgt I w < k := by
        rcases Int.lt_or_le (I 365 w - 1 - rgt I w) k with q | q
        · exact q
        · exact absurd c_29 (heq (by omega))
      refine x_iload_n dX4_endOf_32 rfl ?_
      refine x_iload_n dX4_endOf_33 rfl ?_
      refine x_if_ne (t := 41) dX4_endOf_34 (by decide) (by omega) (fun c_34 => absurd (c_1) c_34) (fun c_34 => ?_)
      refine x_iconst dX4_endOf_37 ?_
      refine x_goto (t := 42) dX4_endOf_38 (by decide) ?_
      refine x_iadd dX4_endOf_42 ?_
      refine x_istore_n dX4_endOf_43 (by decide) ?_
      refine x_goto (t := 17) dX4_endOf_44 (by decide) ?_
      exact ih2 (k + -1) (by omega) (by omega)
/-- the signs at the rows' ends, as bits -/
def m_endSet (I : Nat → Int → Int) (side : Int) : Int := itr (fun t s => itr (fun r s => rr_or s (rr_shl 1 (m_endOf I (4 * t + r) side))) 0 (I 364 t) s) 0 (I 360 8) 0
theorem c_ends {I : Nat → Int → Int} {side : Int} (hs : side = 0 ∨ side = 1) (h : StOK I) : mC yX4_ends cX4_ends 5 (some FieldType.int) 1 [vR (some 360), vI side] I (some (vI (bcx (m_endSet I side)))) I := by
  refine mC.of (by decide) rfl (Nat.le_of_ble_eq_true rfl) (fun G nx => ?_)
  refine x_ls (ls2 := [some (vR (some 360)), some (vI side), none, none, none]) rfl ?_
  have h8 := h.1
  have h4 := h.2.1
  refine x_iconst dX4_ends_0 ?_
  refine x_istore_n dX4_ends_1 (by decide) ?_
  refine x_iconst dX4_ends_2 ?_
  refine x_istore_n dX4_ends_3 (by decide) ?_
  refine rr_for (g := fun t s => itr (fun r s => rr_or s (rr_shl 1 (m_endOf I (4 * t + r) side))) 0 (I 364 t) s) (hi := I 360 8) (P := fun i _ => 0 ≤ i ∧ i ≤ I 360 8) (W := fun i a => mm G yX4_ends cX4_ends 5 (some FieldType.int) 1 nx _ _ 4 [some (vR (some 360)), some (vI side), some (vI a), some (vI i), none] [] I) ?_ ?_ 0 0 rfl (by omega)
  · intro i hi hp
    refine x_iload_n dX4_ends_4 rfl ?_
    refine x_aload_n dX4_ends_5 rfl ?_
    refine m_getI (kf := 8) 8 (by decide) rfl rfl q2123 rfl dX4_ends_6 ?_
    refine x_icmp_ge (t := 54) dX4_ends_9 (by decide) (by omega) (fun c_9 => ?_) (fun c_9 => absurd (by omega) c_9)
    refine x_iload_n dX4_ends_54 rfl ?_
    refine m_cs1 (xc_bitCount.m) fJ4_bitCount q2442 (by decide) (Nat.le_of_ble_eq_true rfl) dX4_ends_55 ?_
    refine x_iret rfl dX4_ends_58 (Nat.le_refl _) (Nat.le_refl _) ?_
    exact ⟨rfl, rfl, rfl⟩
  · intro t s ht hp ih
    have hst := h.2.2 t hp.1 ht
    have hr4 := hst.1
    refine x_iload_n dX4_ends_4 rfl ?_
    refine x_aload_n dX4_ends_5 rfl ?_
    refine m_getI (kf := 8) 8 (by decide) rfl rfl q2123 rfl dX4_ends_6 ?_
    refine x_icmp_ge (t := 54) dX4_ends_9 (by decide) (by omega) (fun c_9 => absurd c_9 (by omega)) (fun c_9 => ?_)
    refine x_iconst dX4_ends_12 ?_
    refine x_istore dX4_ends_13 (by decide) ?_
    refine rr_for (g := fun r s => rr_or s (rr_shl 1 (m_endOf I (4 * t + r) side))) (hi := I 364 t) (P := fun i _ => 0 ≤ i ∧ i ≤ I 364 t) (W := fun i a => mm G yX4_ends cX4_ends 5 (some FieldType.int) 1 nx _ _ 15 [some (vR (some 360)), some (vI side), some (vI a), some (vI t), some (vI i)] [] I) ?_ ?_ 0 s rfl (by omega)
    · intro i hi hp
      refine x_iload dX4_ends_15 rfl ?_
      refine x_aload_n dX4_ends_17 rfl ?_
      refine m_getA (kf := 9) 9 (a := 364) (by decide) rfl rfl q2124 rfl rfl dX4_ends_18 ?_
      refine x_iload_n dX4_ends_21 rfl ?_
      refine m_iald (n := 7) rfl rfl (by decide) (by omega) dX4_ends_22 ?_
      refine x_icmp_ge (t := 48) dX4_ends_23 (by decide) (by omega) (fun c_23 => ?_) (fun c_23 => absurd (by omega) c_23)
      refine x_iinc dX4_ends_48 rfl (by decide) ?_
      refine x_goto (t := 4) dX4_ends_51 (by decide) ?_
      exact x_loc (by repeat first | exact trivial | refine ⟨Or.inr rfl, ?_⟩ | refine ⟨Or.inl rfl, ?_⟩) (ih (by omega))
    · intro r s hr hp2 ih2
      have hrow := hst.2 r hp2.1 hr
      refine x_iload dX4_ends_15 rfl ?_
      refine x_aload_n dX4_ends_17 rfl ?_
      refine m_getA (kf := 9) 9 (a := 364) (by decide) rfl rfl q2124 rfl rfl dX4_ends_18 ?_
      refine x_iload_n dX4_ends_21 rfl ?_
      refine m_iald (n := 7) rfl rfl (by decide) (by omega) dX4_ends_22 ?_
      refine x_icmp_ge (t := 48) dX4_ends_23 (by decide) (by omega) (fun c_23 => absurd c_23 (by omega)) (fun c_23 => ?_)
      refine x_iload_n dX4_ends_26 rfl ?_
      refine x_iconst dX4_ends_27 ?_
      refine x_aload_n dX4_ends_28 rfl ?_
      refine x_iconst dX4_ends_29 ?_
      refine x_iload_n dX4_ends_30 rfl ?_
      refine x_imul dX4_ends_31 ?_
      refine x_iload dX4_ends_32 rfl ?_
      refine x_iadd dX4_ends_34 ?_
      refine x_iload_n dX4_ends_35 rfl ?_
      refine m_cv2 (c_endOf (by omega) (by omega) (by assumption) (by assumption)) fX4_endOf q2438 (by decide) (Nat.le_of_ble_eq_true rfl) dX4_ends_36 ?_
      refine x_ishl dX4_ends_39 ?_
      refine x_ior dX4_ends_40 ?_
      refine x_istore_n dX4_ends_41 (by decide) ?_
      refine x_iinc dX4_ends_42 rfl (by decide) ?_
      refine x_goto (t := 15) dX4_ends_45 (by decide) ?_
      exact ih2 (by omega)
noncomputable def m_judged (I : Nat → Int → Int) : Int := if m_ragged I 0 ≠ m_ragged I 1 then (if m_ragged I 1 < m_ragged I 0 then 0 else 1) else if bcx (m_endSet I 1) < bcx (m_endSet I 0) then 1 else 0
theorem m_ragged_in {I : Nat → Int → Int} (h : StOK I) (side : Int) : 0 ≤ m_ragged I side ∧ m_ragged I side ≤ 6 := by
  have := cnt_in (rag I side) h.1.1
  have := h.1.2
  unfold m_ragged
  omega
theorem c_judgedWay {I : Nat → Int → Int} (h : StOK I) : mC yX4_judgedWay cX4_judgedWay 1 (some FieldType.int) 2 [vR (some 360)] I (some (vI (m_judged I))) I := by
  have r0 := m_ragged_in h 0
  have r1 := m_ragged_in h 1
  have b0 := bcx_in (m_endSet I 0)
  have b1 := bcx_in (m_endSet I 1)
  refine mC.of (by decide) rfl (Nat.le_of_ble_eq_true rfl) (fun G nx => ?_)
  refine x_ls (ls2 := [some (vR (some 360))]) rfl ?_
  unfold m_judged
  refine x_aload_n dX4_judgedWay_0 rfl ?_
  refine x_iconst dX4_judgedWay_1 ?_
  refine m_cv1 (c_ragged (by omega) (by assumption)) fX4_ragged q2430 (by decide) (Nat.le_of_ble_eq_true rfl) dX4_judgedWay_2 ?_
  refine x_aload_n dX4_judgedWay_5 rfl ?_
  refine x_iconst dX4_judgedWay_6 ?_
  refine m_cv1 (c_ragged (by omega) (by assumption)) fX4_ragged q2430 (by decide) (Nat.le_of_ble_eq_true rfl) dX4_judgedWay_7 ?_
  refine x_icmp_eq (t := 32) dX4_judgedWay_10 (by decide) (by omega) (fun c_10 => ?_) (fun c_10 => ?_)
  · skip
    rw [if_neg (by omega)]
    refine x_aload_n dX4_judgedWay_32 rfl ?_
    refine x_iconst dX4_judgedWay_33 ?_
    refine m_cv1 (c_ends (by omega) (by assumption)) fX4_ends q2434 (by decide) (Nat.le_of_ble_eq_true rfl) dX4_judgedWay_34 ?_
    refine x_aload_n dX4_judgedWay_37 rfl ?_
    refine x_iconst dX4_judgedWay_38 ?_
    refine m_cv1 (c_ends (by omega) (by assumption)) fX4_ends q2434 (by decide) (Nat.le_of_ble_eq_true rfl) dX4_judgedWay_39 ?_
    refine x_icmp_ge (t := 49) dX4_judgedWay_42 (by decide) (by omega) (fun c_42 => ?_) (fun c_42 => ?_)
    · skip
      refine x_iconst dX4_judgedWay_49 ?_
      refine x_iret rfl dX4_judgedWay_50 (Nat.le_refl _) (Nat.le_refl _) ?_
      exact ⟨by first | rw [if_pos (by omega)] | rw [if_neg (by omega)], rfl, rfl⟩
    · skip
      refine x_iconst dX4_judgedWay_45 ?_
      refine x_goto (t := 50) dX4_judgedWay_46 (by decide) ?_
      refine x_iret rfl dX4_judgedWay_50 (Nat.le_refl _) (Nat.le_refl _) ?_
      exact ⟨by first | rw [if_pos (by omega)] | rw [if_neg (by omega)], rfl, rfl⟩
  · skip
    rw [if_pos (by omega)]
    refine x_aload_n dX4_judgedWay_13 rfl ?_
    refine x_iconst dX4_judgedWay_14 ?_
    refine m_cv1 (c_ragged (by omega) (by assumption)) fX4_ragged q2430 (by decide) (Nat.le_of_ble_eq_true rfl) dX4_judgedWay_15 ?_
    refine x_aload_n dX4_judgedWay_18 rfl ?_
    refine x_iconst dX4_judgedWay_19 ?_
    refine m_cv1 (c_ragged (by omega) (by assumption)) fX4_ragged q2430 (by decide) (Nat.le_of_ble_eq_true rfl) dX4_judgedWay_20 ?_
    refine x_icmp_le (t := 30) dX4_judgedWay_23 (by decide) (by omega) (fun c_23 => ?_) (fun c_23 => ?_)
    · skip
      refine x_iconst dX4_judgedWay_30 ?_
      refine x_iret rfl dX4_judgedWay_31 (Nat.le_refl _) (Nat.le_refl _) ?_
      exact ⟨by first | rw [if_pos (by omega)] | rw [if_neg (by omega)], rfl, rfl⟩
    · skip
      refine x_iconst dX4_judgedWay_26 ?_
      refine x_goto (t := 31) dX4_judgedWay_27 (by decide) ?_
      refine x_iret rfl dX4_judgedWay_31 (Nat.le_refl _) (Nat.le_refl _) ?_
      exact ⟨by first | rw [if_pos (by omega)] | rw [if_neg (by omega)], rfl, rfl⟩
theorem m_judged_01 (I : Nat → Int → Int) : m_judged I = 0 ∨ m_judged I = 1 := by
  unfold m_judged
  split <;> split <;> simp
