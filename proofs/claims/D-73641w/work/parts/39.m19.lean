set_option maxRecDepth 100000
/-! THE MODEL's methods, 19: directions, rows, words asked -/
theorem StOK_eqx {I J : Nat → Int → Int} {xs : List Nat} {fs : List Int} (h : StOK I) (he : eqx I J xs fs) (h4 : 364 ∉ xs) (h5 : 365 ∉ xs) (h6 : 366 ∉ xs) (f4 : (4 : Int) ∉ fs) (f8 : (8 : Int) ∉ fs) : StOK J := by
  unfold StOK RowOK at *
  rw [he.1 364 (by decide) h4, he.1 365 (by decide) h5, he.1 366 (by decide) h6, he.2 4 f4, he.2 8 f8]
  exact h
noncomputable def v_judged (w : Int) (J : Nat → Int → Int) : Int := if w = 0 then m_judged J else if w = 1 then m_ragged J 0 else if w = 2 then m_ragged J 1 else if w = 3 then bcx (m_endSet J 0) else if w = 4 then bcx (m_endSet J 1) else -1
theorem c_judged {I : Nat → Int → Int} {w : Int} (hw : i32 w) (h : MI I) : mQ yX4_judged cX4_judged 2 (some FieldType.int) 6 [vR (some 360), vI w] I (QP I (v_judged w)) := by
  refine mQ.of (by decide) rfl (Nat.le_of_ble_eq_true rfl) (fun G nx => ?_)
  refine x_ls (ls2 := [some (vR (some 360)), some (vI w)]) rfl ?_
  refine x_aload_n dX4_judged_0 rfl ?_
  refine m_ew0 (c_lays h.1 h.2) fX4_lays q2398 (by decide) (Nat.le_of_ble_eq_true rfl) dX4_judged_1 (fun I2 hI2 => ?_)
  have hst : StOK I2 := StOK_eqx h.1.1 hI2.1 (by decide) (by decide) (by decide) (by decide) (by decide)
  refine x_iload_n dX4_judged_4 rfl ?_
  refine x_tsw (t := 69) dX4_judged_5 (by decide) (by omega) (fun v_5 w_5 e_5 => ?_) (fun c_5 => ?_)
  · skip
    obtain h_5 | h_5 | h_5 | h_5 | h_5 : v_5 = 0 ∨ v_5 = 1 ∨ v_5 = 2 ∨ v_5 = 3 ∨ v_5 = 4 := by omega
    · rw [h_5] at e_5
      rw [h_5]
      refine x_tswi (off := 35) (t := 40) dX4_judged_5 (by decide) (by decide) rfl (by decide) ?_
      refine x_aload_n dX4_judged_40 rfl ?_
      refine m_cv0 (c_judgedWay (by assumption)) fX4_judgedWay q2426 (by decide) (Nat.le_of_ble_eq_true rfl) dX4_judged_41 ?_
      refine x_iret rfl dX4_judged_44 (Nat.le_refl _) (Nat.le_refl _) ?_
      exact ⟨_, rfl, rfl, _, rfl, hI2.keep, by first | (rw [e_5]; rfl) | (unfold v_judged; repeat rw [if_neg (by omega)])⟩
    · rw [h_5] at e_5
      rw [h_5]
      refine x_tswi (off := 40) (t := 45) dX4_judged_5 (by decide) (by decide) rfl (by decide) ?_
      refine x_aload_n dX4_judged_45 rfl ?_
      refine x_iconst dX4_judged_46 ?_
      refine m_cv1 (c_ragged (by omega) (by assumption)) fX4_ragged q2430 (by decide) (Nat.le_of_ble_eq_true rfl) dX4_judged_47 ?_
      refine x_iret rfl dX4_judged_50 (Nat.le_refl _) (Nat.le_refl _) ?_
      exact ⟨_, rfl, rfl, _, rfl, hI2.keep, by first | (rw [e_5]; rfl) | (unfold v_judged; repeat rw [if_neg (by omega)])⟩
    · rw [h_5] at e_5
      rw [h_5]
      refine x_tswi (off := 46) (t := 51) dX4_judged_5 (by decide) (by decide) rfl (by decide) ?_
      refine x_aload_n dX4_judged_51 rfl ?_
      refine x_iconst dX4_judged_52 ?_
      refine m_cv1 (c_ragged (by omega) (by assumption)) fX4_ragged q2430 (by decide) (Nat.le_of_ble_eq_true rfl) dX4_judged_53 ?_
      refine x_iret rfl dX4_judged_56 (Nat.le_refl _) (Nat.le_refl _) ?_
      exact ⟨_, rfl, rfl, _, rfl, hI2.keep, by first | (rw [e_5]; rfl) | (unfold v_judged; repeat rw [if_neg (by omega)])⟩
    · rw [h_5] at e_5
      rw [h_5]
      refine x_tswi (off := 52) (t := 57) dX4_judged_5 (by decide) (by decide) rfl (by decide) ?_
      refine x_aload_n dX4_judged_57 rfl ?_
      refine x_iconst dX4_judged_58 ?_
      refine m_cv1 (c_ends (by omega) (by assumption)) fX4_ends q2434 (by decide) (Nat.le_of_ble_eq_true rfl) dX4_judged_59 ?_
      refine x_iret rfl dX4_judged_62 (Nat.le_refl _) (Nat.le_refl _) ?_
      exact ⟨_, rfl, rfl, _, rfl, hI2.keep, by first | (rw [e_5]; rfl) | (unfold v_judged; repeat rw [if_neg (by omega)])⟩
    · rw [h_5] at e_5
      rw [h_5]
      refine x_tswi (off := 58) (t := 63) dX4_judged_5 (by decide) (by decide) rfl (by decide) ?_
      refine x_aload_n dX4_judged_63 rfl ?_
      refine x_iconst dX4_judged_64 ?_
      refine m_cv1 (c_ends (by omega) (by assumption)) fX4_ends q2434 (by decide) (Nat.le_of_ble_eq_true rfl) dX4_judged_65 ?_
      refine x_iret rfl dX4_judged_68 (Nat.le_refl _) (Nat.le_refl _) ?_
      exact ⟨_, rfl, rfl, _, rfl, hI2.keep, by first | (rw [e_5]; rfl) | (unfold v_judged; repeat rw [if_neg (by omega)])⟩
  · skip
    refine x_iconst dX4_judged_69 ?_
    refine x_iret rfl dX4_judged_70 (Nat.le_refl _) (Nat.le_refl _) ?_
    exact ⟨_, rfl, rfl, _, rfl, hI2.keep, by first | (rw [e_5]; rfl) | (unfold v_judged; repeat rw [if_neg (by omega)])⟩
theorem c_words {I : Nat → Int → Int} (h : MI I) : mQ yX4_words cX4_words 1 (some FieldType.int) 6 [vR (some 360)] I (QP I (fun J => J 360 25)) := by
  refine mQ.of (by decide) rfl (Nat.le_of_ble_eq_true rfl) (fun G nx => ?_)
  refine x_ls (ls2 := [some (vR (some 360))]) rfl ?_
  refine x_aload_n dX4_words_0 rfl ?_
  refine m_ew0 (c_lays h.1 h.2) fX4_lays q2398 (by decide) (Nat.le_of_ble_eq_true rfl) dX4_words_1 (fun I2 hI2 => ?_)
  refine x_aload_n dX4_words_4 rfl ?_
  refine m_getI (kf := 25) 25 (by decide) rfl rfl q2140 rfl dX4_words_5 ?_
  refine x_iret rfl dX4_words_8 (Nat.le_refl _) (Nat.le_refl _) ?_
  exact ⟨_, rfl, rfl, _, rfl, hI2.keep, rfl⟩
theorem insW_le (L : List (List Int × Int)) (p : List Int) {n : Int} (hn : 0 ≤ n) (h : ∀ q ∈ L, 1 ≤ q.2 ∧ q.2 ≤ n) : ∀ q ∈ insW L p, 1 ≤ q.2 ∧ q.2 ≤ n + 1 := by
  have hins : ∀ q ∈ L.take (posW L p) ++ (p, (1 : Int)) :: L.drop (posW L p), 1 ≤ q.2 ∧ q.2 ≤ n + 1 := by
    intro q hq
    simp only [List.mem_append, List.mem_cons] at hq
    rcases hq with z | z | z
    · have := h q (List.mem_of_mem_take z); omega
    · rw [z]; simp only; omega
    · have := h q (List.mem_of_mem_drop z); omega
  unfold insW
  split
  · rename_i q0 hq0
    split
    · intro q hq
      rcases List.mem_or_eq_of_mem_set hq with z | z
      · have := h q z; omega
      · have h0 := h q0 (List.mem_of_getElem? hq0)
        rw [z]; simp only; omega
    · exact hins
  · exact hins
theorem lexL_le (ws : List (List Int)) : ∀ q ∈ lexL ws, 1 ≤ q.2 ∧ q.2 ≤ ws.length := by
  have key : ∀ (ws : List (List Int)) (L : List (List Int × Int)) (n : Int), 0 ≤ n → (∀ q ∈ L, 1 ≤ q.2 ∧ q.2 ≤ n) → ∀ q ∈ ws.foldl insW L, 1 ≤ q.2 ∧ q.2 ≤ n + ws.length := by
    intro ws
    induction ws with
    | nil => intro L n hn h q hq; have := h q hq; simp; omega
    | cons a ws ih =>
      intro L n hn h q hq
      have := ih (insW L a) (n + 1) (by omega) (insW_le L a hn h) q hq
      simp only [List.length_cons]
      omega
  intro q hq
  have := key ws [] 0 (by omega) (fun q hq => by simp at hq) q hq
  omega
theorem Laid.ent {J : Nat → Int → Int} (h : Laid J) {j : Nat} (hj : (j : Int) < J 360 25) : ∃ q, (lxI J)[j]? = some q ∧ (J 376 j = q.1.length ∧ J 378 j = q.2 ∧ ∀ k : Nat, k < q.1.length → J 377 (7 * (j : Int) + k) = q.1.getD k 0) ∧ WOK q.1 ∧ 1 ≤ q.2 ∧ q.2 ≤ 240 := by
  have hl := h.we.1
  have hjl : j < (lxI J).length := by omega
  have hq : (lxI J)[j]? = some (lxI J)[j] := List.getElem?_eq_getElem hjl
  have h1 := lexL_le (wsI J) _ (List.mem_of_getElem? (l := lexL (wsI J)) hq)
  have h2 := h.wl.1
  exact ⟨_, hq, h.we.at hq, (h.we.2 j _ hq).2, h1.1, by omega⟩
def v_word (k w : Int) (J : Nat → Int → Int) : Int := if (0 ≤ k ∧ k < J 360 25) ∧ 0 ≤ w ∧ w ≤ 8 then (if w = 0 then J 378 k else if w = 1 then J 376 k else J 377 (7 * k + (w - 2))) else -1
theorem c_word {I : Nat → Int → Int} {k w : Int} (hk : i32 k) (hw : i32 w) (h : MI I) : mQ yX4_word cX4_word 3 (some FieldType.int) 6 [vR (some 360), vI k, vI w] I (QP I (v_word k w)) := by
  refine mQ.of (by decide) rfl (Nat.le_of_ble_eq_true rfl) (fun G nx => ?_)
  refine x_ls (ls2 := [some (vR (some 360)), some (vI k), some (vI w)]) rfl ?_
  unfold v_word
  refine x_aload_n dX4_word_0 rfl ?_
  refine m_ew0 (c_lays h.1 h.2) fX4_lays q2398 (by decide) (Nat.le_of_ble_eq_true rfl) dX4_word_1 (fun I2 hI2 => ?_)
  have h25 := hI2.2.1.we.1
  have hwl := hI2.2.1.wl
  refine x_iload_n dX4_word_4 rfl ?_
  refine x_iconst dX4_word_5 ?_
  refine x_aload_n dX4_word_6 rfl ?_
  refine m_getI (kf := 25) 25 (by decide) rfl rfl q2140 rfl dX4_word_7 ?_
  refine x_iconst dX4_word_10 ?_
  refine x_isub dX4_word_11 ?_
  refine m_cs3 (c_in (by omega) (by omega) (by omega)) fX4_in q2299 (by decide) (Nat.le_of_ble_eq_true rfl) dX4_word_12 ?_
  refine x_if_eq_b (t := 28) dX4_word_15 (by decide) (fun c_15 => ?_) (fun c_15 => ?_)
  · skip
    refine x_iconst dX4_word_28 ?_
    refine x_iret rfl dX4_word_29 (Nat.le_refl _) (Nat.le_refl _) ?_
    exact ⟨_, rfl, rfl, _, rfl, hI2.keep, by dsimp only; rw [if_neg (by omega)]⟩
  · skip
    refine x_iload_n dX4_word_18 rfl ?_
    refine x_iconst dX4_word_19 ?_
    refine x_bipush dX4_word_20 (by decide) ?_
    refine m_cs3 (c_in (by omega) (by omega) (by omega)) fX4_in q2299 (by decide) (Nat.le_of_ble_eq_true rfl) dX4_word_22 ?_
    refine x_if_ne_b (t := 30) dX4_word_25 (by decide) (fun c_25 => ?_) (fun c_25 => ?_)
    · skip
      refine x_iload_n dX4_word_30 rfl ?_
      refine x_if_ne (t := 43) dX4_word_31 (by decide) (by omega) (fun c_31 => ?_) (fun c_31 => ?_)
      · skip
        refine x_iload_n dX4_word_43 rfl ?_
        refine x_iconst dX4_word_44 ?_
        refine x_icmp_ne (t := 57) dX4_word_45 (by decide) (by omega) (fun c_45 => ?_) (fun c_45 => ?_)
        · skip
          refine x_aload_n dX4_word_57 rfl ?_
          refine m_getA (kf := 28) 28 (a := 377) (by decide) rfl rfl q2143 rfl rfl dX4_word_58 ?_
          refine x_bipush dX4_word_61 (by decide) ?_
          refine x_iload_n dX4_word_63 rfl ?_
          refine x_imul dX4_word_64 ?_
          refine x_iload_n dX4_word_65 rfl ?_
          refine x_iadd dX4_word_66 ?_
          refine x_iconst dX4_word_67 ?_
          refine x_isub dX4_word_68 ?_
          refine m_iald (n := 1687) rfl rfl (by decide) (by omega) dX4_word_69 ?_
          refine x_iret rfl dX4_word_70 (Nat.le_refl _) (Nat.le_refl _) ?_
          exact ⟨_, rfl, rfl, _, rfl, hI2.keep, by dsimp only; rw [if_pos (by omega)]; first | rw [if_pos (by omega)] | (rw [if_neg (by omega), if_pos (by omega)]) | (rw [if_neg (by omega), if_neg (by omega)]; congr 1; omega)⟩
        · skip
          refine x_aload_n dX4_word_48 rfl ?_
          refine m_getA (kf := 27) 27 (a := 376) (by decide) rfl rfl q2142 rfl rfl dX4_word_49 ?_
          refine x_iload_n dX4_word_52 rfl ?_
          refine m_iald (n := 241) rfl rfl (by decide) (by omega) dX4_word_53 ?_
          refine x_goto (t := 70) dX4_word_54 (by decide) ?_
          refine x_iret rfl dX4_word_70 (Nat.le_refl _) (Nat.le_refl _) ?_
          exact ⟨_, rfl, rfl, _, rfl, hI2.keep, by dsimp only; rw [if_pos (by omega)]; first | rw [if_pos (by omega)] | (rw [if_neg (by omega), if_pos (by omega)]) | (rw [if_neg (by omega), if_neg (by omega)]; congr 1; omega)⟩
      · skip
        refine x_aload_n dX4_word_34 rfl ?_
        refine m_getA (kf := 29) 29 (a := 378) (by decide) rfl rfl q2144 rfl rfl dX4_word_35 ?_
        refine x_iload_n dX4_word_38 rfl ?_
        refine m_iald (n := 241) rfl rfl (by decide) (by omega) dX4_word_39 ?_
        refine x_goto (t := 70) dX4_word_40 (by decide) ?_
        refine x_iret rfl dX4_word_70 (Nat.le_refl _) (Nat.le_refl _) ?_
        exact ⟨_, rfl, rfl, _, rfl, hI2.keep, by dsimp only; rw [if_pos (by omega)]; first | rw [if_pos (by omega)] | (rw [if_neg (by omega), if_pos (by omega)]) | (rw [if_neg (by omega), if_neg (by omega)]; congr 1; omega)⟩
    · skip
      refine x_iconst dX4_word_28 ?_
      refine x_iret rfl dX4_word_29 (Nat.le_refl _) (Nat.le_refl _) ?_
      exact ⟨_, rfl, rfl, _, rfl, hI2.keep, by dsimp only; rw [if_neg (by omega)]⟩
/-- v stands ahead of w by how often they are -/
def ahd (J : Nat → Int → Int) (w v : Int) : Prop := J 378 w < J 378 v ∨ (J 378 v = J 378 w ∧ v < w)
def RkPost (I : Nat → Int → Int) (k z : Int) (I' : Nat → Int → Int) : Prop := Keep I I' ∧ Laid I' ∧ (((0 ≤ z ∧ z < I' 360 25) ∧ cnt (ahd I' z) (I' 360 25) = k) ∨ (z = -1 ∧ ∀ w, 0 ≤ w → w < I' 360 25 → cnt (ahd I' w) (I' 360 25) ≠ k))
theorem c_rank {I : Nat → Int → Int} {k : Int} (hk : i32 k) (h : MI I) : mQ yX4_rank cX4_rank 5 (some FieldType.int) 6 [vR (some 360), vI k] I (RkPost I k) := by
  refine mQ.of (by decide) rfl (Nat.le_of_ble_eq_true rfl) (fun G nx => ?_)
  refine x_ls (ls2 := [some (vR (some 360)), some (vI k), none, none, none]) rfl ?_
  refine x_aload_n dX4_rank_0 rfl ?_
  refine m_ew0 (c_lays h.1 h.2) fX4_lays q2398 (by decide) (Nat.le_of_ble_eq_true rfl) dX4_rank_1 (fun I2 hI2 => ?_)
  refine x_iconst dX4_rank_4 ?_
  refine x_istore_n dX4_rank_5 (by decide) ?_
  have hK := hI2.keep
  have hLd := hI2.2.1
  clear hI2
  generalize I2 = J at *
  have h25 := hLd.we.1
  have hwl := hLd.wl
  refine rr_ind (W := fun w => mq G yX4_rank cX4_rank 5 (some FieldType.int) 6 nx _ 6 [some (vR (some 360)), some (vI k), some (vI w), none, none] [] J) (fun w => (J 360 25 - w).toNat) (fun w => (0 ≤ w ∧ w ≤ J 360 25) ∧ ∀ v, 0 ≤ v → v < w → cnt (ahd J v) (J 360 25) ≠ k) ?_ 0 ⟨by omega, fun v h1 h2 => by omega⟩
  rintro w ⟨hw, hno⟩ ih
  refine x_iload_n dX4_rank_6 rfl ?_
  refine x_aload_n dX4_rank_7 rfl ?_
  refine m_getI (kf := 25) 25 (by decide) rfl rfl q2140 rfl dX4_rank_8 ?_
  refine x_icmp_ge (t := 96) dX4_rank_11 (by decide) (by omega) (fun c_11 => ?_) (fun c_11 => ?_)
  · skip
    refine x_iconst dX4_rank_96 ?_
    refine x_iret rfl dX4_rank_97 (Nat.le_refl _) (Nat.le_refl _) ?_
    exact ⟨_, rfl, rfl, _, rfl, hK, hLd, Or.inr ⟨rfl, fun v h1 h2 => hno v h1 (by omega)⟩⟩
  · skip
    refine x_iconst dX4_rank_14 ?_
    refine x_istore_n dX4_rank_15 (by decide) ?_
    refine x_iconst dX4_rank_16 ?_
    refine x_istore dX4_rank_17 (by decide) ?_
    have hwt : 1 ≤ J 378 w ∧ J 378 w ≤ 240 := by
      obtain ⟨q, -, ⟨-, h2, -⟩, -, h3⟩ := hLd.ent (j := w.toNat) (by omega)
      rw [show ((w.toNat : Nat) : Int) = w by omega] at h2
      omega
    refine x_loc (ls2 := [some (vR (some 360)), some (vI k), some (vI w), some (vI (cnt (ahd J w) 0)), some (vI 0)]) (by rw [cnt_0]; exact (by repeat first | exact trivial | refine ⟨Or.inr rfl, ?_⟩ | refine ⟨Or.inl rfl, ?_⟩)) ?_
    refine rr_ind (W := fun v => mq G yX4_rank cX4_rank 5 (some FieldType.int) 6 nx _ 19 [some (vR (some 360)), some (vI k), some (vI w), some (vI (cnt (ahd J w) v)), some (vI v)] [] J) (fun v => (J 360 25 - v).toNat) (fun v => 0 ≤ v ∧ v ≤ J 360 25) ?_ 0 (by omega)
    intro v hv ih2
    have hup := cnt_up (ahd J w) hv.1
    have hci := cnt_in (ahd J w) hv.1
    have hvt : v < J 360 25 → 1 ≤ J 378 v ∧ J 378 v ≤ 240 := fun z => by
      obtain ⟨q, -, ⟨-, h2, -⟩, -, h3⟩ := hLd.ent (j := v.toNat) (by omega)
      rw [show ((v.toNat : Nat) : Int) = v by omega] at h2
      omega
    refine x_iload dX4_rank_19 rfl ?_
    refine x_aload_n dX4_rank_21 rfl ?_
    refine m_getI (kf := 25) 25 (by decide) rfl rfl q2140 rfl dX4_rank_22 ?_
    refine x_icmp_ge (t := 83) dX4_rank_25 (by decide) (by omega) (fun c_25 => ?_) (fun c_25 => ?_)
    · skip
      have hv2 : v = J 360 25 := by omega
      subst hv2
      refine x_iload_n dX4_rank_83 rfl ?_
      refine x_iload_n dX4_rank_84 rfl ?_
      refine x_icmp_ne (t := 90) dX4_rank_85 (by decide) (by omega) (fun c_85 => ?_) (fun c_85 => ?_)
      · skip
        refine x_iinc dX4_rank_90 rfl (by decide) ?_
        refine x_goto (t := 6) dX4_rank_93 (by decide) ?_
        exact x_loc (by repeat first | exact trivial | refine ⟨Or.inr rfl, ?_⟩ | refine ⟨Or.inl rfl, ?_⟩) (ih (w + 1) ⟨by omega, fun v h1 h2 => by
          by_cases e : v = w
          · rw [e]; exact c_85
          · exact hno v h1 (by omega)⟩ (by omega))
      · skip
        refine x_iload_n dX4_rank_88 rfl ?_
        refine x_iret rfl dX4_rank_89 (Nat.le_refl _) (Nat.le_refl _) ?_
        exact ⟨_, rfl, rfl, _, rfl, hK, hLd, Or.inl ⟨by omega, c_85⟩⟩
    · skip
      have hvt := hvt (by omega)
      refine x_iload_n dX4_rank_28 rfl ?_
      refine x_aload_n dX4_rank_29 rfl ?_
      refine m_getA (kf := 29) 29 (a := 378) (by decide) rfl rfl q2144 rfl rfl dX4_rank_30 ?_
      refine x_iload dX4_rank_33 rfl ?_
      refine m_iald (n := 241) rfl rfl (by decide) (by omega) dX4_rank_35 ?_
      refine x_aload_n dX4_rank_36 rfl ?_
      refine m_getA (kf := 29) 29 (a := 378) (by decide) rfl rfl q2144 rfl rfl dX4_rank_37 ?_
      refine x_iload_n dX4_rank_40 rfl ?_
      refine m_iald (n := 241) rfl rfl (by decide) (by omega) dX4_rank_41 ?_
      refine x_icmp_gt (t := 67) dX4_rank_42 (by decide) (by omega) (fun c_42 => ?_) (fun c_42 => ?_)
      · skip
        refine x_iconst dX4_rank_67 ?_
        refine x_goto (t := 72) dX4_rank_68 (by decide) ?_
        refine x_top (bi (ahd J w v)) (by first | exact (bi_t (by unfold ahd; omega)).symm | exact (bi_f (by unfold ahd; omega)).symm) ?_
        refine m_cs1 (c_truth) fX4_truth q2327 (by decide) (Nat.le_of_ble_eq_true rfl) dX4_rank_72 ?_
        refine x_iadd dX4_rank_75 ?_
        rw [← hup]
        refine x_istore_n dX4_rank_76 (by decide) ?_
        refine x_iinc dX4_rank_77 rfl (by decide) ?_
        refine x_goto (t := 19) dX4_rank_80 (by decide) ?_
        exact ih2 (v + 1) (by omega) (by omega)
      · skip
        refine x_aload_n dX4_rank_45 rfl ?_
        refine m_getA (kf := 29) 29 (a := 378) (by decide) rfl rfl q2144 rfl rfl dX4_rank_46 ?_
        refine x_iload dX4_rank_49 rfl ?_
        refine m_iald (n := 241) rfl rfl (by decide) (by omega) dX4_rank_51 ?_
        refine x_aload_n dX4_rank_52 rfl ?_
        refine m_getA (kf := 29) 29 (a := 378) (by decide) rfl rfl q2144 rfl rfl dX4_rank_53 ?_
        refine x_iload_n dX4_rank_56 rfl ?_
        refine m_iald (n := 241) rfl rfl (by decide) (by omega) dX4_rank_57 ?_
        refine x_icmp_ne (t := 71) dX4_rank_58 (by decide) (by omega) (fun c_58 => ?_) (fun c_58 => ?_)
        · skip
          refine x_iconst dX4_rank_71 ?_
          refine x_top (bi (ahd J w v)) (by first | exact (bi_t (by unfold ahd; omega)).symm | exact (bi_f (by unfold ahd; omega)).symm) ?_
          refine m_cs1 (c_truth) fX4_truth q2327 (by decide) (Nat.le_of_ble_eq_true rfl) dX4_rank_72 ?_
          refine x_iadd dX4_rank_75 ?_
          rw [← hup]
          refine x_istore_n dX4_rank_76 (by decide) ?_
          refine x_iinc dX4_rank_77 rfl (by decide) ?_
          refine x_goto (t := 19) dX4_rank_80 (by decide) ?_
          exact ih2 (v + 1) (by omega) (by omega)
        · skip
          refine x_iload dX4_rank_61 rfl ?_
          refine x_iload_n dX4_rank_63 rfl ?_
          refine x_icmp_ge (t := 71) dX4_rank_64 (by decide) (by omega) (fun c_64 => ?_) (fun c_64 => ?_)
          · skip
            refine x_iconst dX4_rank_71 ?_
            refine x_top (bi (ahd J w v)) (by first | exact (bi_t (by unfold ahd; omega)).symm | exact (bi_f (by unfold ahd; omega)).symm) ?_
            refine m_cs1 (c_truth) fX4_truth q2327 (by decide) (Nat.le_of_ble_eq_true rfl) dX4_rank_72 ?_
            refine x_iadd dX4_rank_75 ?_
            rw [← hup]
            refine x_istore_n dX4_rank_76 (by decide) ?_
            refine x_iinc dX4_rank_77 rfl (by decide) ?_
            refine x_goto (t := 19) dX4_rank_80 (by decide) ?_
            exact ih2 (v + 1) (by omega) (by omega)
          · skip
            refine x_iconst dX4_rank_67 ?_
            refine x_goto (t := 72) dX4_rank_68 (by decide) ?_
            refine x_top (bi (ahd J w v)) (by first | exact (bi_t (by unfold ahd; omega)).symm | exact (bi_f (by unfold ahd; omega)).symm) ?_
            refine m_cs1 (c_truth) fX4_truth q2327 (by decide) (Nat.le_of_ble_eq_true rfl) dX4_rank_72 ?_
            refine x_iadd dX4_rank_75 ?_
            rw [← hup]
            refine x_istore_n dX4_rank_76 (by decide) ?_
            refine x_iinc dX4_rank_77 rfl (by decide) ?_
            refine x_goto (t := 19) dX4_rank_80 (by decide) ?_
            exact ih2 (v + 1) (by omega) (by omega)
theorem rowsTo_le (I : Nat → Int → Int) (b : Int) {t n : Nat} (h : t ≤ n) : (rowsTo I b t).length ≤ (rowsTo I b n).length := by
  induction n with
  | zero => rw [show t = 0 by omega]; exact Nat.le_refl _
  | succ n ih =>
    by_cases e : t = n + 1
    · rw [e]; exact Nat.le_refl _
    · have := ih (by omega)
      simp only [rowsTo, List.length_append]
      omega
theorem rowsTo_get (I : Nat → Int → Int) (b : Int) : ∀ n t r : Nat, t < n → r < (I 364 t).toNat → (rowsTo I b n).getD ((rowsTo I b t).length + r) [] = rowL I (4 * (t : Int) + r) (toLeft b r) := by
  intro n
  induction n with
  | zero => intro t r h; omega
  | succ n ih =>
    intro t r h1 h2
    simp only [rowsTo]
    by_cases e : t = n
    · subst e
      rw [List.getD_eq_getElem?_getD, List.getElem?_append_right (by omega), show (rowsTo I b t).length + r - (rowsTo I b t).length = r by omega]
      simp [rowsT, h2]
    · have h3 := rowsTo_le I b (t := t + 1) (n := n) (by omega)
      have h4 : (rowsTo I b (t + 1)).length = (rowsTo I b t).length + (I 364 t).toNat := by simp only [rowsTo, List.length_append, rowsT_len]
      rw [List.getD_eq_getElem?_getD, List.getElem?_append_left (by omega), ← List.getD_eq_getElem?_getD]
      exact ih t r (by omega) h2
noncomputable def v_read (t r k : Int) (J : Nat → Int → Int) : Int :=
  if (0 ≤ t ∧ t < J 360 8) ∧ 0 ≤ r ∧ r < J 364 t then (if k = -1 then ((rowL J (4 * t + r) (toLeft (m_by J) r.toNat)).length : Int) else if 0 ≤ k ∧ k < (rowL J (4 * t + r) (toLeft (m_by J) r.toNat)).length then (rowL J (4 * t + r) (toLeft (m_by J) r.toNat)).getD k.toNat 0 else -1) else -1
theorem c_read {I : Nat → Int → Int} {t r k : Int} (ht : i32 t) (hr : i32 r) (hk : i32 k) (h : MI I) : mQ yX4_read cX4_read 6 (some FieldType.int) 6 [vR (some 360), vI t, vI r, vI k] I (QP I (v_read t r k)) := by
  have h8 := h.1.1.1
  have hrm : (0 ≤ t ∧ t < I 360 8) → 1 ≤ I 364 t ∧ I 364 t ≤ 4 := fun q => (h.1.1.2.2 t q.1 q.2).1
  refine mQ.of (by decide) rfl (Nat.le_of_ble_eq_true rfl) (fun G nx => ?_)
  refine x_ls (ls2 := [some (vR (some 360)), some (vI t), some (vI r), some (vI k), none, none]) rfl ?_
  refine x_iload_n dX4_read_0 rfl ?_
  refine x_iconst dX4_read_1 ?_
  refine x_aload_n dX4_read_2 rfl ?_
  refine m_getI (kf := 8) 8 (by decide) rfl rfl q2123 rfl dX4_read_3 ?_
  refine x_iconst dX4_read_6 ?_
  refine x_isub dX4_read_7 ?_
  refine m_cs3 (c_in (by omega) (by omega) (by omega)) fX4_in q2299 (by decide) (Nat.le_of_ble_eq_true rfl) dX4_read_8 ?_
  refine x_if_eq_b (t := 30) dX4_read_11 (by decide) (fun c_11 => ?_) (fun c_11 => ?_)
  · skip
    have hbad : ¬ (0 ≤ t ∧ t < I 360 8) := by omega
    refine x_iconst dX4_read_30 ?_
    refine x_iret rfl dX4_read_31 (Nat.le_refl _) (Nat.le_refl _) ?_
    exact ⟨_, rfl, rfl, _, rfl, Keep.rf h.2, by unfold v_read; rw [if_neg (by omega)]⟩
  · skip
    have hrm := hrm (by omega)
    refine x_iload_n dX4_read_14 rfl ?_
    refine x_iconst dX4_read_15 ?_
    refine x_aload_n dX4_read_16 rfl ?_
    refine m_getA (kf := 9) 9 (a := 364) (by decide) rfl rfl q2124 rfl rfl dX4_read_17 ?_
    refine x_iload_n dX4_read_20 rfl ?_
    refine m_iald (n := 7) rfl rfl (by decide) (by omega) dX4_read_21 ?_
    refine x_iconst dX4_read_22 ?_
    refine x_isub dX4_read_23 ?_
    refine m_cs3 (c_in (by omega) (by omega) (by omega)) fX4_in q2299 (by decide) (Nat.le_of_ble_eq_true rfl) dX4_read_24 ?_
    refine x_if_ne_b (t := 32) dX4_read_27 (by decide) (fun c_27 => ?_) (fun c_27 => ?_)
    · skip
      refine x_aload_n dX4_read_32 rfl ?_
      refine m_ew0 (c_lays h.1 h.2) fX4_lays q2398 (by decide) (Nat.le_of_ble_eq_true rfl) dX4_read_33 (fun I2 hI2 => ?_)
      refine x_iload_n dX4_read_36 rfl ?_
      refine x_istore dX4_read_37 (by decide) ?_
      refine x_iconst dX4_read_39 ?_
      refine x_istore dX4_read_40 (by decide) ?_
      have hst : StOK I2 := StOK_eqx h.1.1 hI2.1 (by decide) (by decide) (by decide) (by decide) (by decide)
      have e8 := hI2.1.2 8 (by decide)
      have e364 := hI2.1.1 364 (by decide) (by decide)
      have hK := hI2.keep
      have hLd := hI2.2.1
      clear hI2
      generalize I2 = J at *
      obtain ⟨T, hT⟩ : ∃ T : Nat, t = T := ⟨t.toNat, by omega⟩
      obtain ⟨r', hr'⟩ : ∃ r' : Nat, r = r' := ⟨r.toNat, by omega⟩
      subst hT
      subst hr'
      refine x_loc (ls2 := [some (vR (some 360)), some (vI (T : Int)), some (vI (r' : Int)), some (vI k), some (vI ((r' : Int) + (rowsTo J (m_by J) 0).length)), some (vI ((0 : Nat) : Int))]) (by rw [show (((rowsTo J (m_by J) 0).length : Nat) : Int) = 0 from rfl, Int.add_zero]; exact (by repeat first | exact trivial | refine ⟨Or.inr rfl, ?_⟩ | refine ⟨Or.inl rfl, ?_⟩)) ?_
      refine rr_ind (W := fun i : Nat => mq G yX4_read cX4_read 6 (some FieldType.int) 6 nx _ 42 [some (vR (some 360)), some (vI (T : Int)), some (vI (r' : Int)), some (vI k), some (vI ((r' : Int) + (rowsTo J (m_by J) i).length)), some (vI (i : Int))] [] J) (fun i => T - i) (fun i => i ≤ T) ?_ 0 (by omega)
      intro i hi ih
      have h6 := hst.1
      have hri : i < T → 1 ≤ J 364 i ∧ J 364 i ≤ 4 := fun q => (hst.2.2 i (by omega) (by omega)).1
      have hnx : i < T → (rowsTo J (m_by J) (i + 1)).length = (rowsTo J (m_by J) i).length + (J 364 i).toNat := fun _ => by simp only [rowsTo, List.length_append, rowsT_len]
      refine x_iload dX4_read_42 rfl ?_
      refine x_iload_n dX4_read_44 rfl ?_
      refine x_icmp_ge (t := 66) dX4_read_45 (by decide) (by omega) (fun c_45 => ?_) (fun c_45 => ?_)
      · skip
        have hiT : i = T := by omega
        subst hiT
        have hget := rowsTo_get J (m_by J) (J 360 8).toNat i r' (by omega) (by rw [e364]; omega)
        have hle := rowsTo_le J (m_by J) (t := i + 1) (n := (J 360 8).toNat) (by omega)
        have hln : (rowsTo J (m_by J) (i + 1)).length = (rowsTo J (m_by J) i).length + (J 364 i).toNat := by simp only [rowsTo, List.length_append, rowsT_len]
        have hR : m_rows J = rowsTo J (m_by J) (J 360 8).toNat := rfl
        rw [← hR] at hget hle
        have hre := hLd.re
        generalize hidx : (rowsTo J (m_by J) i).length + r' = idx at *
        have hidl : idx < (m_rows J).length := by rw [e364] at hln; omega
        have hrl := hre.2.2.2.1
        have hb1 := hre.2.1 idx (by omega)
        have hb2 := hre.2.1 (idx + 1) (by omega)
        rw [show ((idx + 1 : Nat) : Int) = (idx : Int) + 1 by omega, bg_row hidl, hget] at hb2
        have hrow := hre.row hidl
        rw [hget] at hrow
        have hbl := bg_le hidl
        rw [hget] at hbl
        have hfl := hre.flat
        have hat := fun x => hre.at (r := idx) (i := x) hidl
        rw [hget] at hat
        have hv : v_read (i : Int) (r' : Int) k J = (if k = -1 then ((rowL J (4 * (i : Int) + r') (toLeft (m_by J) r')).length : Int) else if 0 ≤ k ∧ k < (rowL J (4 * (i : Int) + r') (toLeft (m_by J) r')).length then (rowL J (4 * (i : Int) + r') (toLeft (m_by J) r')).getD k.toNat 0 else -1) := by
          unfold v_read
          rw [if_pos (by rw [e8, e364]; omega)]
          rfl
        generalize rowL J (4 * (i : Int) + r') (toLeft (m_by J) r') = l at *
        refine x_loc (ls2 := [some (vR (some 360)), some (vI (i : Int)), some (vI (r' : Int)), some (vI k), some (vI (idx : Int)), none]) (by rw [show (idx : Int) = (r' : Int) + (rowsTo J (m_by J) i).length by omega]; exact (by repeat first | exact trivial | refine ⟨Or.inr rfl, ?_⟩ | refine ⟨Or.inl rfl, ?_⟩)) ?_
        refine x_aload_n dX4_read_66 rfl ?_
        refine m_getA (kf := 21) 21 (a := 373) (by decide) rfl rfl q2136 rfl rfl dX4_read_67 ?_
        refine x_iload dX4_read_70 rfl ?_
        refine x_iconst dX4_read_72 ?_
        refine x_iadd dX4_read_73 ?_
        refine m_iald (n := 25) rfl rfl (by decide) (by omega) dX4_read_74 ?_
        rw [hb2]
        refine x_aload_n dX4_read_75 rfl ?_
        refine m_getA (kf := 21) 21 (a := 373) (by decide) rfl rfl q2136 rfl rfl dX4_read_76 ?_
        refine x_iload dX4_read_79 rfl ?_
        refine m_iald (n := 25) rfl rfl (by decide) (by omega) dX4_read_81 ?_
        rw [hb1]
        refine x_isub dX4_read_82 ?_
        refine x_top (l.length : Int) (by omega) ?_
        refine x_istore dX4_read_83 (by decide) ?_
        refine x_iload_n dX4_read_85 rfl ?_
        refine x_iconst dX4_read_86 ?_
        refine x_icmp_ne (t := 93) dX4_read_87 (by decide) (by omega) (fun c_87 => ?_) (fun c_87 => ?_)
        · skip
          refine x_iload_n dX4_read_93 rfl ?_
          refine x_iconst dX4_read_94 ?_
          refine x_iload dX4_read_95 rfl ?_
          refine x_iconst dX4_read_97 ?_
          refine x_isub dX4_read_98 ?_
          refine m_cs3 (c_in (by omega) (by omega) (by omega)) fX4_in q2299 (by decide) (Nat.le_of_ble_eq_true rfl) dX4_read_99 ?_
          refine x_if_eq_b (t := 122) dX4_read_102 (by decide) (fun c_102 => ?_) (fun c_102 => ?_)
          · skip
            refine x_iconst dX4_read_122 ?_
            refine x_iret rfl dX4_read_123 (Nat.le_refl _) (Nat.le_refl _) ?_
            exact ⟨_, rfl, rfl, _, rfl, hK, by rw [hv, if_neg c_87, if_neg (by omega)]⟩
          · skip
            have hk2 := hat k.toNat (by omega)
            rw [show ((k.toNat : Nat) : Int) = k by omega] at hk2
            refine x_aload_n dX4_read_105 rfl ?_
            refine m_getA (kf := 22) 22 (a := 374) (by decide) rfl rfl q2137 rfl rfl dX4_read_106 ?_
            refine x_aload_n dX4_read_109 rfl ?_
            refine m_getA (kf := 21) 21 (a := 373) (by decide) rfl rfl q2136 rfl rfl dX4_read_110 ?_
            refine x_iload dX4_read_113 rfl ?_
            refine m_iald (n := 25) rfl rfl (by decide) (by omega) dX4_read_115 ?_
            rw [hb1]
            refine x_iload_n dX4_read_116 rfl ?_
            refine x_iadd dX4_read_117 ?_
            refine m_iald (n := 240) rfl rfl (by decide) (by omega) dX4_read_118 ?_
            refine x_goto (t := 123) dX4_read_119 (by decide) ?_
            refine x_iret rfl dX4_read_123 (Nat.le_refl _) (Nat.le_refl _) ?_
            exact ⟨_, rfl, rfl, _, rfl, hK, by rw [hv, if_neg c_87, if_pos (by omega), hk2]⟩
        · skip
          refine x_iload dX4_read_90 rfl ?_
          refine x_iret rfl dX4_read_92 (Nat.le_refl _) (Nat.le_refl _) ?_
          exact ⟨_, rfl, rfl, _, rfl, hK, by rw [hv, if_pos c_87]⟩
      · skip
        have hri := hri (by omega)
        have hnx := hnx (by omega)
        refine x_iload dX4_read_48 rfl ?_
        refine x_aload_n dX4_read_50 rfl ?_
        refine m_getA (kf := 9) 9 (a := 364) (by decide) rfl rfl q2124 rfl rfl dX4_read_51 ?_
        refine x_iload dX4_read_54 rfl ?_
        refine m_iald (n := 7) rfl rfl (by decide) (by omega) dX4_read_56 ?_
        refine x_iadd dX4_read_57 ?_
        refine x_istore dX4_read_58 (by decide) ?_
        refine x_iinc dX4_read_60 rfl (by decide) ?_
        refine x_goto (t := 42) dX4_read_63 (by decide) ?_
        exact x_loc (by rw [hnx, show ((i + 1 : Nat) : Int) = (i : Int) + 1 by omega, show (r' : Int) + (((rowsTo J (m_by J) i).length + (J 364 i).toNat : Nat) : Int) = (r' : Int) + (rowsTo J (m_by J) i).length + J 364 i by omega]; exact (by repeat first | exact trivial | refine ⟨Or.inr rfl, ?_⟩ | refine ⟨Or.inl rfl, ?_⟩)) (ih (i + 1) (by omega) (by omega))
    · skip
      refine x_iconst dX4_read_30 ?_
      refine x_iret rfl dX4_read_31 (Nat.le_refl _) (Nat.le_refl _) ?_
      exact ⟨_, rfl, rfl, _, rfl, Keep.rf h.2, by unfold v_read; rw [if_neg (by omega)]⟩
