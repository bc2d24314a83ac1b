set_option maxRecDepth 100000
/-! THE MODEL's methods, 27: where signs stand -/
def hasW (L : List (List Int × Int)) (s w : Int) : Prop := s ∈ (L.getD w.toNat ([], 0)).1
theorem c_standsIn {J : Nat → Int → Int} {s : Int} (hLd : Laid J) (hs : 0 ≤ s ∧ s < 20) : mC yX4_standsIn cX4_standsIn 6 (some FieldType.int) 1 [vR (some 360), vI s] J (some (vI (cnt (hasW (lxI J) s) (lxI J).length))) J := by
  have h25 := hLd.we.1
  have hwl := hLd.wl
  refine mC.of (by decide) rfl (Nat.le_of_ble_eq_true rfl) (fun G nx => ?_)
  refine x_ls (ls2 := [some (vR (some 360)), some (vI s), none, none, none, none]) rfl ?_
  refine x_iconst dX4_standsIn_0 ?_
  refine x_istore_n dX4_standsIn_1 (by decide) ?_
  refine x_iconst dX4_standsIn_2 ?_
  refine x_istore_n dX4_standsIn_3 (by decide) ?_
  refine x_loc (ls2 := [some (vR (some 360)), some (vI s), some (vI (cnt (hasW (lxI J) s) ((0 : Nat) : Int))), some (vI ((0 : Nat) : Int)), none, none]) (by rw [show ((0 : Nat) : Int) = 0 from rfl, cnt_0]; exact (by repeat first | exact trivial | refine ⟨Or.inr rfl, ?_⟩ | refine ⟨Or.inl rfl, ?_⟩)) ?_
  refine rr_ind (W := fun w : Nat => mm G yX4_standsIn cX4_standsIn 6 (some FieldType.int) 1 nx _ _ 4 [some (vR (some 360)), some (vI s), some (vI (cnt (hasW (lxI J) s) (w : Int))), some (vI (w : Int)), none, none] [] J) (fun w => (lxI J).length - w) (fun w => w ≤ (lxI J).length) ?_ 0 (by omega)
  intro w hw ih
  have hup := cnt_up (hasW (lxI J) s) (k := (w : Int)) (by omega)
  refine x_iload_n dX4_standsIn_4 rfl ?_
  refine x_aload_n dX4_standsIn_5 rfl ?_
  refine m_getI (kf := 25) 25 (by decide) rfl rfl q2140 rfl dX4_standsIn_6 ?_
  rw [h25]
  refine x_icmp_ge (t := 77) dX4_standsIn_9 (by decide) (by omega) (fun c_9 => ?_) (fun c_9 => ?_)
  · skip
    refine x_iload_n dX4_standsIn_77 rfl ?_
    refine x_iret rfl dX4_standsIn_78 (Nat.le_refl _) (Nat.le_refl _) ?_
    exact ⟨by rw [show w = (lxI J).length by omega], rfl, rfl⟩
  · skip
    refine x_iconst dX4_standsIn_12 ?_
    refine x_istore dX4_standsIn_13 (by decide) ?_
    refine x_iconst dX4_standsIn_15 ?_
    refine x_istore dX4_standsIn_16 (by decide) ?_
    obtain ⟨q, hq, ⟨q1, -, q3⟩, hWq, -⟩ := hLd.ent (j := w) (by omega)
    have hq1 := hWq.1
    have hmem : ∀ k : Nat, k ≤ q.1.length → ((∃ i : Nat, i < k ∧ q.1.getD i 0 = s) ↔ s ∈ q.1.take k) := fun k hk => by
      constructor
      · rintro ⟨i, h1, h2⟩
        rw [← h2, List.getD_eq_getElem?_getD, List.getElem?_eq_getElem (by omega)]
        exact List.mem_take_iff_getElem.mpr ⟨i, by omega, rfl⟩
      · intro h
        obtain ⟨i, h1, h2⟩ := List.mem_take_iff_getElem.mp h
        exact ⟨i, by omega, by rw [List.getD_eq_getElem?_getD, List.getElem?_eq_getElem (by omega)]; exact h2⟩
    have hL : (lxI J).getD w ([], 0) = q := by rw [List.getD_eq_getElem?_getD, hq]; rfl
    refine x_loc (ls2 := [some (vR (some 360)), some (vI s), some (vI (cnt (hasW (lxI J) s) (w : Int))), some (vI (w : Int)), some (vI (bi (∃ i : Nat, i < 0 ∧ q.1.getD i 0 = s))), some (vI ((0 : Nat) : Int))]) (by rw [bi_f (fun ⟨i, z, _⟩ => by omega)]; exact (by repeat first | exact trivial | refine ⟨Or.inr rfl, ?_⟩ | refine ⟨Or.inl rfl, ?_⟩)) ?_
    refine rr_ind (W := fun k : Nat => mm G yX4_standsIn cX4_standsIn 6 (some FieldType.int) 1 nx _ _ 18 [some (vR (some 360)), some (vI s), some (vI (cnt (hasW (lxI J) s) (w : Int))), some (vI (w : Int)), some (vI (bi (∃ i : Nat, i < k ∧ q.1.getD i 0 = s))), some (vI (k : Int))] [] J) (fun k => q.1.length - k) (fun k => k ≤ q.1.length) ?_ 0 (by omega)
    intro k hk ih2
    have hb01 := bi_01 (∃ i : Nat, i < k ∧ q.1.getD i 0 = s)
    have hbk : k < q.1.length → 0 ≤ q.1.getD k 0 ∧ q.1.getD k 0 < 20 := fun z => hWq.at z
    refine x_iload dX4_standsIn_18 rfl ?_
    refine x_aload_n dX4_standsIn_20 rfl ?_
    refine m_getA (kf := 27) 27 (a := 376) (by decide) rfl rfl q2142 rfl rfl dX4_standsIn_21 ?_
    refine x_iload_n dX4_standsIn_24 rfl ?_
    refine m_iald (n := 241) rfl rfl (by decide) (by omega) dX4_standsIn_25 ?_
    rw [q1]
    refine x_icmp_ge (t := 63) dX4_standsIn_26 (by decide) (by omega) (fun c_26 => ?_) (fun c_26 => ?_)
    · skip
      have hk2 : k = q.1.length := by omega
      subst hk2
      refine x_iload_n dX4_standsIn_63 rfl ?_
      refine x_iload dX4_standsIn_64 rfl ?_
      refine m_cs1 (c_truth) fX4_truth q2327 (by decide) (Nat.le_of_ble_eq_true rfl) dX4_standsIn_66 ?_
      refine x_iadd dX4_standsIn_69 ?_
      rw [show bi (∃ i : Nat, i < q.1.length ∧ q.1.getD i 0 = s) = bi (hasW (lxI J) s (w : Int)) from bi_iff (by unfold hasW; rw [show ((w : Nat) : Int).toNat = w by omega, hL, hmem _ (Nat.le_refl _), List.take_length]), ← hup]
      refine x_istore_n dX4_standsIn_70 (by decide) ?_
      refine x_iinc dX4_standsIn_71 rfl (by decide) ?_
      refine x_goto (t := 4) dX4_standsIn_74 (by decide) ?_
      exact x_loc (by rw [show ((w + 1 : Nat) : Int) = (w : Int) + 1 by omega]; exact (by repeat first | exact trivial | refine ⟨Or.inr rfl, ?_⟩ | refine ⟨Or.inl rfl, ?_⟩)) (ih (w + 1) (by omega) (by omega))
    · skip
      have hbk := hbk (by omega)
      have hgo := ih2 (k + 1) (by omega) (by omega)
      refine x_iload dX4_standsIn_29 rfl ?_
      refine x_if_ne (t := 50) dX4_standsIn_31 (by decide) (by omega) (fun c_31 => ?_) (fun c_31 => ?_)
      · skip
        have hyes : ∃ i : Nat, i < k + 1 ∧ q.1.getD i 0 = s := by
          obtain ⟨i, z1, z2⟩ := (Classical.byContradiction fun z => c_31 (bi_f z) : ∃ i : Nat, i < k ∧ q.1.getD i 0 = s)
          exact ⟨i, by omega, z2⟩
        refine x_iconst dX4_standsIn_50 ?_
        refine x_goto (t := 55) dX4_standsIn_51 (by decide) ?_
        refine x_top (bi (∃ i : Nat, i < k + 1 ∧ q.1.getD i 0 = s)) (by first | exact (bi_t hyes).symm | exact (bi_f hnot).symm) ?_
        refine x_istore dX4_standsIn_55 (by decide) ?_
        refine x_iinc dX4_standsIn_57 rfl (by decide) ?_
        refine x_goto (t := 18) dX4_standsIn_60 (by decide) ?_
        exact x_loc (by rw [show ((k + 1 : Nat) : Int) = (k : Int) + 1 by omega]; exact (by repeat first | exact trivial | refine ⟨Or.inr rfl, ?_⟩ | refine ⟨Or.inl rfl, ?_⟩)) hgo
      · skip
        have hnone : ¬ ∃ i : Nat, i < k ∧ q.1.getD i 0 = s := fun z => by rw [bi_t z] at c_31; omega
        refine x_aload_n dX4_standsIn_34 rfl ?_
        refine m_getA (kf := 28) 28 (a := 377) (by decide) rfl rfl q2143 rfl rfl dX4_standsIn_35 ?_
        refine x_bipush dX4_standsIn_38 (by decide) ?_
        refine x_iload_n dX4_standsIn_40 rfl ?_
        refine x_imul dX4_standsIn_41 ?_
        refine x_iload dX4_standsIn_42 rfl ?_
        refine x_iadd dX4_standsIn_44 ?_
        refine m_iald (n := 1687) rfl rfl (by decide) (by omega) dX4_standsIn_45 ?_
        rw [q3 k (by omega)]
        refine x_iload_n dX4_standsIn_46 rfl ?_
        refine x_icmp_ne (t := 54) dX4_standsIn_47 (by decide) (by omega) (fun c_47 => ?_) (fun c_47 => ?_)
        · skip
          have hnot : ¬ ∃ i : Nat, i < k + 1 ∧ q.1.getD i 0 = s := by
            rintro ⟨i, z1, z2⟩
            by_cases e : i = k
            · rw [e] at z2; exact c_47 z2
            · exact hnone ⟨i, by omega, z2⟩
          refine x_iconst dX4_standsIn_54 ?_
          refine x_top (bi (∃ i : Nat, i < k + 1 ∧ q.1.getD i 0 = s)) (by first | exact (bi_t hyes).symm | exact (bi_f hnot).symm) ?_
          refine x_istore dX4_standsIn_55 (by decide) ?_
          refine x_iinc dX4_standsIn_57 rfl (by decide) ?_
          refine x_goto (t := 18) dX4_standsIn_60 (by decide) ?_
          exact x_loc (by rw [show ((k + 1 : Nat) : Int) = (k : Int) + 1 by omega]; exact (by repeat first | exact trivial | refine ⟨Or.inr rfl, ?_⟩ | refine ⟨Or.inl rfl, ?_⟩)) hgo
        · skip
          have hyes : ∃ i : Nat, i < k + 1 ∧ q.1.getD i 0 = s := ⟨k, by omega, c_47⟩
          refine x_iconst dX4_standsIn_50 ?_
          refine x_goto (t := 55) dX4_standsIn_51 (by decide) ?_
          refine x_top (bi (∃ i : Nat, i < k + 1 ∧ q.1.getD i 0 = s)) (by first | exact (bi_t hyes).symm | exact (bi_f hnot).symm) ?_
          refine x_istore dX4_standsIn_55 (by decide) ?_
          refine x_iinc dX4_standsIn_57 rfl (by decide) ?_
          refine x_goto (t := 18) dX4_standsIn_60 (by decide) ?_
          exact x_loc (by rw [show ((k + 1 : Nat) : Int) = (k : Int) + 1 by omega]; exact (by repeat first | exact trivial | refine ⟨Or.inr rfl, ?_⟩ | refine ⟨Or.inl rfl, ?_⟩)) hgo
noncomputable def v_stands (f w : Int) (J : Nat → Int → Int) : Int := if (0 ≤ f ∧ f < J 360 4) ∧ 0 ≤ w ∧ w ≤ 3 then (if w = 0 then cnt (fun k => (m_rows J).flatten.getD k.toNat 0 = J 371 f) (m_rows J).flatten.length else if w = 1 then cntH (wsI J) (J 371 f) else if w = 2 then cntT (wsI J) (J 371 f) else cnt (hasW (lxI J) (J 371 f)) (lxI J).length) else -1
theorem c_stands2 {I : Nat → Int → Int} {f w : Int} (hf : i32 f) (hw : i32 w) (h : MI I) : mQ yX4_stands_2 cX4_stands_2 6 (some FieldType.int) 6 [vR (some 360), vI f, vI w] I (QP I (v_stands f w)) := by
  have h4 := h.1.1.2.1
  refine mQ.of (by decide) rfl (Nat.le_of_ble_eq_true rfl) (fun G nx => ?_)
  refine x_ls (ls2 := [some (vR (some 360)), some (vI f), some (vI w), none, none, none]) rfl ?_
  refine x_aload_n dX4_stands_2_0 rfl ?_
  refine x_iload_n dX4_stands_2_1 rfl ?_
  refine m_cv1 (c_isForm (by omega) (by assumption)) fX4_isForm q2382 (by decide) (Nat.le_of_ble_eq_true rfl) dX4_stands_2_2 ?_
  refine x_if_eq_b (t := 17) dX4_stands_2_5 (by decide) (fun c_5 => ?_) (fun c_5 => ?_)
  · skip
    refine x_iconst dX4_stands_2_17 ?_
    refine x_iret rfl dX4_stands_2_18 (Nat.le_refl _) (Nat.le_refl _) ?_
    exact ⟨_, rfl, rfl, _, rfl, Keep.rf h.2, by unfold v_stands; rw [if_neg (by omega)]⟩
  · skip
    refine x_iload_n dX4_stands_2_8 rfl ?_
    refine x_iconst dX4_stands_2_9 ?_
    refine x_iconst dX4_stands_2_10 ?_
    refine m_cs3 (c_in (by omega) (by omega) (by omega)) fX4_in q2299 (by decide) (Nat.le_of_ble_eq_true rfl) dX4_stands_2_11 ?_
    refine x_if_ne_b (t := 19) dX4_stands_2_14 (by decide) (fun c_14 => ?_) (fun c_14 => ?_)
    · skip
      refine x_aload_n dX4_stands_2_19 rfl ?_
      refine m_ew0 (c_lays h.1 h.2) fX4_lays q2398 (by decide) (Nat.le_of_ble_eq_true rfl) dX4_stands_2_20 (fun J hJ => ?_)
      have e4 := hJ.1.2 4 (by decide)
      have hK := hJ.keep
      have hLd := hJ.2.1
      have hs := (hLd.so f (by omega) (by omega)).1
      have hht := hLd.ht (J 371 f) (by omega) (by omega)
      have hre := hLd.re
      have hv : v_stands f w J = (if w = 0 then cnt (fun k => (m_rows J).flatten.getD k.toNat 0 = J 371 f) (m_rows J).flatten.length else if w = 1 then cntH (wsI J) (J 371 f) else if w = 2 then cntT (wsI J) (J 371 f) else cnt (hasW (lxI J) (J 371 f)) (lxI J).length) := by
        unfold v_stands
        rw [if_pos (by omega)]
      refine x_aload_n dX4_stands_2_23 rfl ?_
      refine m_getA (kf := 18) 18 (a := 371) (by decide) rfl rfl q2133 rfl rfl dX4_stands_2_24 ?_
      refine x_iload_n dX4_stands_2_27 rfl ?_
      refine m_iald (n := 20) rfl rfl (by decide) (by omega) dX4_stands_2_28 ?_
      refine x_istore_n dX4_stands_2_29 (by decide) ?_
      refine x_iload_n dX4_stands_2_30 rfl ?_
      refine x_tsw (t := 123) dX4_stands_2_31 (by decide) (by omega) (fun v_31 w_31 e_31 => ?_) (fun c_31 => ?_)
      · skip
        obtain h_31 | h_31 | h_31 : v_31 = 0 ∨ v_31 = 1 ∨ v_31 = 2 := by omega
        · rw [h_31] at e_31
          rw [h_31]
          refine x_tswi (off := 25) (t := 56) dX4_stands_2_31 (by decide) (by decide) rfl (by decide) ?_
          refine x_iconst dX4_stands_2_56 ?_
          refine x_istore dX4_stands_2_57 (by decide) ?_
          refine x_iconst dX4_stands_2_59 ?_
          refine x_istore dX4_stands_2_60 (by decide) ?_
          have hfl := hre.flat
          have h23 := hre.1
          have h24 := hre.2.2.2.1
          have hbg := hre.2.1 (m_rows J).length (Nat.le_refl _)
          rw [bg_end] at hbg
          refine x_loc (ls2 := [some (vR (some 360)), some (vI f), some (vI w), some (vI (J 371 f)), some (vI (cnt (fun k => (m_rows J).flatten.getD k.toNat 0 = J 371 f) ((0 : Nat) : Int))), some (vI ((0 : Nat) : Int))]) (by rw [show ((0 : Nat) : Int) = 0 from rfl, cnt_0]; exact (by repeat first | exact trivial | refine ⟨Or.inr rfl, ?_⟩ | refine ⟨Or.inl rfl, ?_⟩)) ?_
          refine rr_ind (W := fun k : Nat => mq G yX4_stands_2 cX4_stands_2 6 (some FieldType.int) 6 nx _ 62 [some (vR (some 360)), some (vI f), some (vI w), some (vI (J 371 f)), some (vI (cnt (fun k => (m_rows J).flatten.getD k.toNat 0 = J 371 f) (k : Int))), some (vI (k : Int))] [] J) (fun k => (m_rows J).flatten.length - k) (fun k => k ≤ (m_rows J).flatten.length) ?_ 0 (by omega)
          intro k hk ih
          have hup := cnt_up (fun k => (m_rows J).flatten.getD k.toNat 0 = J 371 f) (k := (k : Int)) (by omega)
          rw [show ((k : Nat) : Int).toNat = k by omega] at hup
          have hget := fun z => hre.2.2.1 k z
          have hin : k < (m_rows J).flatten.length → 0 ≤ (m_rows J).flatten.getD k 0 ∧ (m_rows J).flatten.getD k 0 < 20 := fun z => by
            have hm : (m_rows J).flatten.getD k 0 ∈ (m_rows J).flatten := by
              rw [List.getD_eq_getElem?_getD, List.getElem?_eq_getElem z]
              exact List.getElem_mem z
            obtain ⟨l, hl, hc⟩ := List.mem_flatten.mp hm
            exact (hre.2.2.2.2 l hl).2 _ hc
          refine x_iload dX4_stands_2_62 rfl ?_
          refine x_aload_n dX4_stands_2_64 rfl ?_
          refine m_getA (kf := 21) 21 (a := 373) (by decide) rfl rfl q2136 rfl rfl dX4_stands_2_65 ?_
          refine x_aload_n dX4_stands_2_68 rfl ?_
          refine m_getI (kf := 23) 23 (by decide) rfl rfl q2138 rfl dX4_stands_2_69 ?_
          rw [h23]
          refine m_iald (n := 25) rfl rfl (by decide) (by omega) dX4_stands_2_72 ?_
          rw [hbg]
          refine x_icmp_ge (t := 106) dX4_stands_2_73 (by decide) (by omega) (fun c_73 => ?_) (fun c_73 => ?_)
          · skip
            refine x_iload dX4_stands_2_106 rfl ?_
            refine x_iret rfl dX4_stands_2_108 (Nat.le_refl _) (Nat.le_refl _) ?_
            exact ⟨_, rfl, rfl, _, rfl, hK, by rw [hv, if_pos (by omega), show k = (m_rows J).flatten.length by omega]⟩
          · skip
            have hget := hget (by omega)
            have hin := hin (by omega)
            refine x_iload dX4_stands_2_76 rfl ?_
            refine x_aload_n dX4_stands_2_78 rfl ?_
            refine m_getA (kf := 22) 22 (a := 374) (by decide) rfl rfl q2137 rfl rfl dX4_stands_2_79 ?_
            refine x_iload dX4_stands_2_82 rfl ?_
            refine m_iald (n := 240) rfl rfl (by decide) (by omega) dX4_stands_2_84 ?_
            rw [hget]
            refine x_iload_n dX4_stands_2_85 rfl ?_
            refine x_icmp_ne (t := 93) dX4_stands_2_86 (by decide) (by omega) (fun c_86 => ?_) (fun c_86 => ?_)
            · skip
              refine x_iconst dX4_stands_2_93 ?_
              refine x_top (bi ((m_rows J).flatten.getD k 0 = J 371 f)) (by first | exact (bi_t c_86).symm | exact (bi_f c_86).symm) ?_
              refine m_cs1 (c_truth) fX4_truth q2327 (by decide) (Nat.le_of_ble_eq_true rfl) dX4_stands_2_94 ?_
              refine x_iadd dX4_stands_2_97 ?_
              rw [← hup]
              refine x_istore dX4_stands_2_98 (by decide) ?_
              refine x_iinc dX4_stands_2_100 rfl (by decide) ?_
              refine x_goto (t := 62) dX4_stands_2_103 (by decide) ?_
              exact x_loc (by rw [show ((k + 1 : Nat) : Int) = (k : Int) + 1 by omega]; exact (by repeat first | exact trivial | refine ⟨Or.inr rfl, ?_⟩ | refine ⟨Or.inl rfl, ?_⟩)) (ih (k + 1) (by omega) (by omega))
            · skip
              refine x_iconst dX4_stands_2_89 ?_
              refine x_goto (t := 94) dX4_stands_2_90 (by decide) ?_
              refine x_top (bi ((m_rows J).flatten.getD k 0 = J 371 f)) (by first | exact (bi_t c_86).symm | exact (bi_f c_86).symm) ?_
              refine m_cs1 (c_truth) fX4_truth q2327 (by decide) (Nat.le_of_ble_eq_true rfl) dX4_stands_2_94 ?_
              refine x_iadd dX4_stands_2_97 ?_
              rw [← hup]
              refine x_istore dX4_stands_2_98 (by decide) ?_
              refine x_iinc dX4_stands_2_100 rfl (by decide) ?_
              refine x_goto (t := 62) dX4_stands_2_103 (by decide) ?_
              exact x_loc (by rw [show ((k + 1 : Nat) : Int) = (k : Int) + 1 by omega]; exact (by repeat first | exact trivial | refine ⟨Or.inr rfl, ?_⟩ | refine ⟨Or.inl rfl, ?_⟩)) (ih (k + 1) (by omega) (by omega))
        · rw [h_31] at e_31
          rw [h_31]
          refine x_tswi (off := 78) (t := 109) dX4_stands_2_31 (by decide) (by decide) rfl (by decide) ?_
          refine x_aload_n dX4_stands_2_109 rfl ?_
          refine m_getA (kf := 30) 30 (a := 379) (by decide) rfl rfl q2145 rfl rfl dX4_stands_2_110 ?_
          refine x_iload_n dX4_stands_2_113 rfl ?_
          refine m_iald (n := 20) rfl rfl (by decide) (by omega) dX4_stands_2_114 ?_
          refine x_iret rfl dX4_stands_2_115 (Nat.le_refl _) (Nat.le_refl _) ?_
          exact ⟨_, rfl, rfl, _, rfl, hK, by rw [hv, if_neg (by omega), if_pos (by omega)]; exact hht.1⟩
        · rw [h_31] at e_31
          rw [h_31]
          refine x_tswi (off := 85) (t := 116) dX4_stands_2_31 (by decide) (by decide) rfl (by decide) ?_
          refine x_aload_n dX4_stands_2_116 rfl ?_
          refine m_getA (kf := 31) 31 (a := 380) (by decide) rfl rfl q2146 rfl rfl dX4_stands_2_117 ?_
          refine x_iload_n dX4_stands_2_120 rfl ?_
          refine m_iald (n := 20) rfl rfl (by decide) (by omega) dX4_stands_2_121 ?_
          refine x_iret rfl dX4_stands_2_122 (Nat.le_refl _) (Nat.le_refl _) ?_
          exact ⟨_, rfl, rfl, _, rfl, hK, by rw [hv, if_neg (by omega), if_neg (by omega), if_pos (by omega)]; exact hht.2⟩
      · skip
        refine x_aload_n dX4_stands_2_123 rfl ?_
        refine x_iload_n dX4_stands_2_124 rfl ?_
        refine m_cv1 (c_standsIn hLd (by omega)) fX4_standsIn q2589 (by decide) (Nat.le_of_ble_eq_true rfl) dX4_stands_2_125 ?_
        refine x_iret rfl dX4_stands_2_128 (Nat.le_refl _) (Nat.le_refl _) ?_
        exact ⟨_, rfl, rfl, _, rfl, hK, by rw [hv, if_neg (by omega), if_neg (by omega), if_neg (by omega)]⟩
    · skip
      refine x_iconst dX4_stands_2_17 ?_
      refine x_iret rfl dX4_stands_2_18 (Nat.le_refl _) (Nat.le_refl _) ?_
      exact ⟨_, rfl, rfl, _, rfl, Keep.rf h.2, by unfold v_stands; rw [if_neg (by omega)]⟩
/-- how often b stands behind a in a row, in rows -/
noncomputable def adjR (a b : Int) (row : List Int) : Int := cnt (fun k => row.getD k.toNat 0 = a ∧ row.getD (k.toNat + 1) 0 = b) (row.length - 1)
noncomputable def adjL (R : List (List Int)) (a b : Int) : Int := (R.map (adjR a b)).sum
theorem adjL_snoc {R : List (List Int)} {a b : Int} {r : Nat} (hr : r < R.length) : adjL (R.take (r + 1)) a b = adjL (R.take r) a b + adjR a b (R.getD r []) := by
  have h1 : R.take (r + 1) = R.take r ++ [R[r]] := by rw [List.take_succ, List.getElem?_eq_getElem hr]; rfl
  have h2 : R.getD r [] = R[r] := by simp [hr]
  unfold adjL
  rw [h1, h2, List.map_append, List.sum_append]
  simp only [List.map_cons, List.map_nil, List.sum_cons, List.sum_nil, Int.add_zero]
noncomputable def v_ahead (f g : Int) (J : Nat → Int → Int) : Int := if (0 ≤ f ∧ f < J 360 4) ∧ 0 ≤ g ∧ g < J 360 4 then adjL (m_rows J) (J 371 f) (J 371 g) else -1
theorem c_ahead {I : Nat → Int → Int} {f g : Int} (hf : i32 f) (hg : i32 g) (h : MI I) : mQ yX4_ahead cX4_ahead 6 (some FieldType.int) 6 [vR (some 360), vI f, vI g] I (QP I (v_ahead f g)) := by
  have h4 := h.1.1.2.1
  refine mQ.of (by decide) rfl (Nat.le_of_ble_eq_true rfl) (fun G nx => ?_)
  refine x_ls (ls2 := [some (vR (some 360)), some (vI f), some (vI g), none, none, none]) rfl ?_
  refine x_aload_n dX4_ahead_0 rfl ?_
  refine x_iload_n dX4_ahead_1 rfl ?_
  refine m_cv1 (c_isForm (by omega) (by assumption)) fX4_isForm q2382 (by decide) (Nat.le_of_ble_eq_true rfl) dX4_ahead_2 ?_
  refine x_if_eq_b (t := 16) dX4_ahead_5 (by decide) (fun c_5 => ?_) (fun c_5 => ?_)
  · skip
    refine x_iconst dX4_ahead_16 ?_
    refine x_iret rfl dX4_ahead_17 (Nat.le_refl _) (Nat.le_refl _) ?_
    exact ⟨_, rfl, rfl, _, rfl, Keep.rf h.2, by unfold v_ahead; rw [if_neg (by omega)]⟩
  · skip
    refine x_aload_n dX4_ahead_8 rfl ?_
    refine x_iload_n dX4_ahead_9 rfl ?_
    refine m_cv1 (c_isForm (by omega) (by assumption)) fX4_isForm q2382 (by decide) (Nat.le_of_ble_eq_true rfl) dX4_ahead_10 ?_
    refine x_if_ne_b (t := 18) dX4_ahead_13 (by decide) (fun c_13 => ?_) (fun c_13 => ?_)
    · skip
      refine x_aload_n dX4_ahead_18 rfl ?_
      refine m_ew0 (c_lays h.1 h.2) fX4_lays q2398 (by decide) (Nat.le_of_ble_eq_true rfl) dX4_ahead_19 (fun I2 hI2 => ?_)
      refine x_iconst dX4_ahead_22 ?_
      refine x_istore_n dX4_ahead_23 (by decide) ?_
      refine x_iconst dX4_ahead_24 ?_
      refine x_istore dX4_ahead_25 (by decide) ?_
      have e4 := hI2.1.2 4 (by decide)
      have hK := hI2.keep
      have hLd := hI2.2.1
      clear hI2
      generalize I2 = J at *
      have hsf := (hLd.so f (by omega) (by omega)).1
      have hsg := (hLd.so g (by omega) (by omega)).1
      have hre := hLd.re
      have h23 := hre.1
      have h24 := hre.2.2.2.1
      have hv : v_ahead f g J = adjL (m_rows J) (J 371 f) (J 371 g) := by unfold v_ahead; rw [if_pos (by omega)]
      refine x_loc (ls2 := [some (vR (some 360)), some (vI f), some (vI g), some (vI (adjL ((m_rows J).take 0) (J 371 f) (J 371 g))), some (vI ((0 : Nat) : Int)), none]) (by simp only [List.take_zero, adjL, List.map_nil, List.sum_nil]; exact (by repeat first | exact trivial | refine ⟨Or.inr rfl, ?_⟩ | refine ⟨Or.inl rfl, ?_⟩)) ?_
      refine rr_ind (W := fun r : Nat => mq G yX4_ahead cX4_ahead 6 (some FieldType.int) 6 nx _ 27 [some (vR (some 360)), some (vI f), some (vI g), some (vI (adjL ((m_rows J).take r) (J 371 f) (J 371 g))), some (vI (r : Int)), none] [] J) (fun r => (m_rows J).length - r) (fun r => r ≤ (m_rows J).length) ?_ 0 (by omega)
      intro r hr ih
      have hbr := hre.2.1 r hr
      refine x_iload dX4_ahead_27 rfl ?_
      refine x_aload_n dX4_ahead_29 rfl ?_
      refine m_getI (kf := 23) 23 (by decide) rfl rfl q2138 rfl dX4_ahead_30 ?_
      rw [h23]
      refine x_icmp_ge (t := 118) dX4_ahead_33 (by decide) (by omega) (fun c_33 => ?_) (fun c_33 => ?_)
      · skip
        refine x_iload_n dX4_ahead_118 rfl ?_
        refine x_iret rfl dX4_ahead_119 (Nat.le_refl _) (Nat.le_refl _) ?_
        exact ⟨_, rfl, rfl, _, rfl, hK, by rw [hv, show r = (m_rows J).length by omega, List.take_length]⟩
      · skip
        refine x_aload_n dX4_ahead_36 rfl ?_
        refine m_getA (kf := 21) 21 (a := 373) (by decide) rfl rfl q2136 rfl rfl dX4_ahead_37 ?_
        refine x_iload dX4_ahead_40 rfl ?_
        refine m_iald (n := 25) rfl rfl (by decide) (by omega) dX4_ahead_42 ?_
        rw [hbr]
        refine x_istore dX4_ahead_43 (by decide) ?_
        have hb := bg_le (R := m_rows J) (r := r) (by omega)
        have hfl := hre.flat
        have hrow := hre.row (r := r) (by omega)
        have hsn := adjL_snoc (R := m_rows J) (a := J 371 f) (b := J 371 g) (r := r) (by omega)
        have hbn := hre.2.1 (r + 1) (by omega)
        rw [show ((r + 1 : Nat) : Int) = (r : Int) + 1 by omega, bg_row (show r < (m_rows J).length by omega)] at hbn
        have hat := fun k => hre.at (r := r) (i := k) (by omega)
        unfold adjR at hsn
        generalize (m_rows J).getD r [] = row at *
        generalize bg (m_rows J) r = b0 at *
        have hmem : ∀ k, k < row.length → 0 ≤ row.getD k 0 ∧ row.getD k 0 < 20 := fun k hk => by
          rw [List.getD_eq_getElem?_getD, List.getElem?_eq_getElem hk]
          exact hrow.2 _ (List.getElem_mem _)
        refine x_loc (ls2 := [some (vR (some 360)), some (vI f), some (vI g), some (vI (adjL ((m_rows J).take r) (J 371 f) (J 371 g) + cnt (fun k => row.getD k.toNat 0 = J 371 f ∧ row.getD (k.toNat + 1) 0 = J 371 g) ((0 : Nat) : Int))), some (vI (r : Int)), some (vI (b0 + ((0 : Nat) : Int)))]) (by rw [show ((0 : Nat) : Int) = 0 from rfl, cnt_0, Int.add_zero, Int.add_zero]; exact (by repeat first | exact trivial | refine ⟨Or.inr rfl, ?_⟩ | refine ⟨Or.inl rfl, ?_⟩)) ?_
        refine rr_ind (W := fun k : Nat => mq G yX4_ahead cX4_ahead 6 (some FieldType.int) 6 nx _ 45 [some (vR (some 360)), some (vI f), some (vI g), some (vI (adjL ((m_rows J).take r) (J 371 f) (J 371 g) + cnt (fun k => row.getD k.toNat 0 = J 371 f ∧ row.getD (k.toNat + 1) 0 = J 371 g) (k : Int))), some (vI (r : Int)), some (vI (b0 + (k : Int)))] [] J) (fun k => row.length - 1 - k) (fun k => k ≤ row.length - 1) ?_ 0 (by omega)
        intro k hk ih2
        have hup := cnt_up (fun k => row.getD k.toNat 0 = J 371 f ∧ row.getD (k.toNat + 1) 0 = J 371 g) (k := (k : Int)) (by omega)
        rw [show ((k : Nat) : Int).toNat = k by omega] at hup
        refine x_iload dX4_ahead_45 rfl ?_
        refine x_iconst dX4_ahead_47 ?_
        refine x_iadd dX4_ahead_48 ?_
        refine x_aload_n dX4_ahead_49 rfl ?_
        refine m_getA (kf := 21) 21 (a := 373) (by decide) rfl rfl q2136 rfl rfl dX4_ahead_50 ?_
        refine x_iload dX4_ahead_53 rfl ?_
        refine x_iconst dX4_ahead_55 ?_
        refine x_iadd dX4_ahead_56 ?_
        refine m_iald (n := 25) rfl rfl (by decide) (by omega) dX4_ahead_57 ?_
        rw [hbn]
        refine x_icmp_ge (t := 112) dX4_ahead_58 (by decide) (by omega) (fun c_58 => ?_) (fun c_58 => ?_)
        · skip
          have hk2 : k = row.length - 1 := by omega
          refine x_iinc dX4_ahead_112 rfl (by decide) ?_
          refine x_goto (t := 27) dX4_ahead_115 (by decide) ?_
          exact x_loc (by rw [hsn, show ((r + 1 : Nat) : Int) = (r : Int) + 1 by omega, show ((row.length : Nat) : Int) - 1 = (k : Int) by omega]; exact (by repeat first | exact trivial | refine ⟨Or.inr rfl, ?_⟩ | refine ⟨Or.inl rfl, ?_⟩)) (ih (r + 1) (by omega) (by omega))
        · skip
          have hk1 := hat k (by omega)
          have hk2 := hat (k + 1) (by omega)
          rw [show b0 + ((k + 1 : Nat) : Int) = b0 + (k : Int) + 1 by omega] at hk2
          have hm1 := hmem k (by omega)
          have hm2 := hmem (k + 1) (by omega)
          refine x_iload_n dX4_ahead_61 rfl ?_
          refine x_aload_n dX4_ahead_62 rfl ?_
          refine m_getA (kf := 22) 22 (a := 374) (by decide) rfl rfl q2137 rfl rfl dX4_ahead_63 ?_
          refine x_iload dX4_ahead_66 rfl ?_
          refine m_iald (n := 240) rfl rfl (by decide) (by omega) dX4_ahead_68 ?_
          rw [hk1]
          refine x_aload_n dX4_ahead_69 rfl ?_
          refine m_getA (kf := 18) 18 (a := 371) (by decide) rfl rfl q2133 rfl rfl dX4_ahead_70 ?_
          refine x_iload_n dX4_ahead_73 rfl ?_
          refine m_iald (n := 20) rfl rfl (by decide) (by omega) dX4_ahead_74 ?_
          refine x_icmp_ne (t := 100) dX4_ahead_75 (by decide) (by omega) (fun c_75 => ?_) (fun c_75 => ?_)
          · skip
            refine x_iconst dX4_ahead_100 ?_
            refine x_top (bi (row.getD k 0 = J 371 f ∧ row.getD (k + 1) 0 = J 371 g)) (by first | exact (bi_t (by omega)).symm | exact (bi_f (by omega)).symm) ?_
            refine m_cs1 (c_truth) fX4_truth q2327 (by decide) (Nat.le_of_ble_eq_true rfl) dX4_ahead_101 ?_
            refine x_iadd dX4_ahead_104 ?_
            rw [Int.add_assoc, ← hup]
            refine x_istore_n dX4_ahead_105 (by decide) ?_
            refine x_iinc dX4_ahead_106 rfl (by decide) ?_
            refine x_goto (t := 45) dX4_ahead_109 (by decide) ?_
            exact x_loc (by rw [show ((k + 1 : Nat) : Int) = (k : Int) + 1 by omega, ← Int.add_assoc]; exact (by repeat first | exact trivial | refine ⟨Or.inr rfl, ?_⟩ | refine ⟨Or.inl rfl, ?_⟩)) (ih2 (k + 1) (by omega) (by omega))
          · skip
            refine x_aload_n dX4_ahead_78 rfl ?_
            refine m_getA (kf := 22) 22 (a := 374) (by decide) rfl rfl q2137 rfl rfl dX4_ahead_79 ?_
            refine x_iload dX4_ahead_82 rfl ?_
            refine x_iconst dX4_ahead_84 ?_
            refine x_iadd dX4_ahead_85 ?_
            refine m_iald (n := 240) rfl rfl (by decide) (by omega) dX4_ahead_86 ?_
            rw [hk2]
            refine x_aload_n dX4_ahead_87 rfl ?_
            refine m_getA (kf := 18) 18 (a := 371) (by decide) rfl rfl q2133 rfl rfl dX4_ahead_88 ?_
            refine x_iload_n dX4_ahead_91 rfl ?_
            refine m_iald (n := 20) rfl rfl (by decide) (by omega) dX4_ahead_92 ?_
            refine x_icmp_ne (t := 100) dX4_ahead_93 (by decide) (by omega) (fun c_93 => ?_) (fun c_93 => ?_)
            · skip
              refine x_iconst dX4_ahead_100 ?_
              refine x_top (bi (row.getD k 0 = J 371 f ∧ row.getD (k + 1) 0 = J 371 g)) (by first | exact (bi_t (by omega)).symm | exact (bi_f (by omega)).symm) ?_
              refine m_cs1 (c_truth) fX4_truth q2327 (by decide) (Nat.le_of_ble_eq_true rfl) dX4_ahead_101 ?_
              refine x_iadd dX4_ahead_104 ?_
              rw [Int.add_assoc, ← hup]
              refine x_istore_n dX4_ahead_105 (by decide) ?_
              refine x_iinc dX4_ahead_106 rfl (by decide) ?_
              refine x_goto (t := 45) dX4_ahead_109 (by decide) ?_
              exact x_loc (by rw [show ((k + 1 : Nat) : Int) = (k : Int) + 1 by omega, ← Int.add_assoc]; exact (by repeat first | exact trivial | refine ⟨Or.inr rfl, ?_⟩ | refine ⟨Or.inl rfl, ?_⟩)) (ih2 (k + 1) (by omega) (by omega))
            · skip
              refine x_iconst dX4_ahead_96 ?_
              refine x_goto (t := 101) dX4_ahead_97 (by decide) ?_
              refine x_top (bi (row.getD k 0 = J 371 f ∧ row.getD (k + 1) 0 = J 371 g)) (by first | exact (bi_t (by omega)).symm | exact (bi_f (by omega)).symm) ?_
              refine m_cs1 (c_truth) fX4_truth q2327 (by decide) (Nat.le_of_ble_eq_true rfl) dX4_ahead_101 ?_
              refine x_iadd dX4_ahead_104 ?_
              rw [Int.add_assoc, ← hup]
              refine x_istore_n dX4_ahead_105 (by decide) ?_
              refine x_iinc dX4_ahead_106 rfl (by decide) ?_
              refine x_goto (t := 45) dX4_ahead_109 (by decide) ?_
              exact x_loc (by rw [show ((k + 1 : Nat) : Int) = (k : Int) + 1 by omega, ← Int.add_assoc]; exact (by repeat first | exact trivial | refine ⟨Or.inr rfl, ?_⟩ | refine ⟨Or.inl rfl, ?_⟩)) (ih2 (k + 1) (by omega) (by omega))
    · skip
      refine x_iconst dX4_ahead_16 ?_
      refine x_iret rfl dX4_ahead_17 (Nat.le_refl _) (Nat.le_refl _) ?_
      exact ⟨_, rfl, rfl, _, rfl, Keep.rf h.2, by unfold v_ahead; rw [if_neg (by omega)]⟩
