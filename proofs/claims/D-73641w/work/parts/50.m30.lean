set_option maxRecDepth 100000
/-! THE MODEL's methods, 30: ways -/
def agP (g : Int → Int) (a b one other : Int) : Prop := (a = b ↔ one = other) ∧ (g a = g b → one / 5 = other / 5) ∧ (g (20 + a) = g (20 + b) → one % 5 = other % 5)
def agW (g : Int → Int) (p nm q nm' : List Int) : Prop := ∀ i, i < nm.length → ∀ k, k < nm'.length → agP g (p.getD i 0) (q.getD k 0) (nm.getD i 0) (nm'.getD k 0)
/-- what the ways ask of the state -/
def WyOK (I : Nat → Int → Int) (L : List (List Int × Int)) : Prop := (0 ≤ I 360 4 ∧ I 360 4 ≤ 20) ∧ WF I L ∧ KnIn I ∧ NmOK I ∧ GrIn I
theorem WF.at {I : Nat → Int → Int} {L : List (List Int × Int)} (hW : WF I L) {w : Nat} {q : List Int × Int} (hw : L[w]? = some q) : (I 376 w = q.1.length ∧ (1 ≤ q.1.length ∧ q.1.length ≤ 7) ∧ w < 240) ∧ ∀ k : Nat, k < q.1.length → I 377 (7 * (w : Int) + k) = q.1.getD k 0 ∧ 0 ≤ q.1.getD k 0 ∧ q.1.getD k 0 < I 360 4 := by
  have hwl := (List.getElem?_eq_some_iff.mp hw).1
  have hL := hW.2.1
  obtain ⟨q1, -, q3⟩ := hW.1.at hw
  have hWq := (hW.1.2 w q hw).2
  refine ⟨⟨q1, hWq.1, by omega⟩, fun k hk => ⟨q3 k hk, (hWq.at hk).1, ?_⟩⟩
  rw [List.getD_eq_getElem?_getD, List.getElem?_eq_getElem hk]
  exact hW.2.2 q (List.mem_of_getElem? hw) _ (List.getElem_mem _)
theorem c_agree {I : Nat → Int → Int} {L : List (List Int × Int)} {n m w v : Nat} {p q : List Int × Int} (h : WyOK I L) (hn : (n : Int) < I 360 12) (hm : (m : Int) < I 360 12) (gn : I 386 n = w) (gm : I 386 m = v) (hw : L[w]? = some p) (hv : L[v]? = some q) (hp : p.1.length = (nmL I n).length) (hq : q.1.length = (nmL I m).length) :
    mC yX4_agree cX4_agree 9 (some FieldType.boolean) 1 [vR (some 360), vI (n : Int), vI (m : Int)] I (some (vI (bi (agW (I 383) p.1 (nmL I n) q.1 (nmL I m))))) I := by
  obtain ⟨h4, hW, hki, hN, hgr⟩ := h
  obtain ⟨⟨p1, p2, p4⟩, p3⟩ := hW.at hw
  obtain ⟨⟨q1, q2, q4⟩, q3⟩ := hW.at hv
  have h12 := hN.1
  obtain ⟨hnl, hnk⟩ := hN.2 n (by omega) hn
  obtain ⟨hml, hmk⟩ := hN.2 m (by omega) hm
  have ln := nmL_len I n
  have lm := nmL_len I m
  have getn := fun k => nmL_get I n (k := k)
  have getm := fun k => nmL_get I m (k := k)
  refine mC.of (by decide) rfl (Nat.le_of_ble_eq_true rfl) (fun G nx => ?_)
  refine x_ls (ls2 := [some (vR (some 360)), some (vI (n : Int)), some (vI (m : Int)), none, none, none, none, none, none]) rfl ?_
  refine x_iconst dX4_agree_0 ?_
  refine x_istore_n dX4_agree_1 (by decide) ?_
  refine x_loc (ls2 := [some (vR (some 360)), some (vI (n : Int)), some (vI (m : Int)), some (vI ((0 : Nat) : Int)), none, none, none, none, none]) (by repeat first | exact trivial | refine ⟨Or.inr rfl, ?_⟩ | refine ⟨Or.inl rfl, ?_⟩) ?_
  refine rr_ind (W := fun i : Nat => mm G yX4_agree cX4_agree 9 (some FieldType.boolean) 1 nx _ _ 2 [some (vR (some 360)), some (vI (n : Int)), some (vI (m : Int)), some (vI (i : Int)), none, none, none, none, none] [] I) (fun i => (nmL I n).length - i) (fun i => i ≤ (nmL I n).length ∧ ∀ j, j < i → ∀ k, k < (nmL I m).length → agP (I 383) (p.1.getD j 0) (q.1.getD k 0) ((nmL I n).getD j 0) ((nmL I m).getD k 0)) ?_ 0 ⟨by omega, fun j hj => by omega⟩
  rintro i ⟨hi, hall⟩ ih
  refine x_iload_n dX4_agree_2 rfl ?_
  refine x_aload_n dX4_agree_3 rfl ?_
  refine m_getA (kf := 13) 13 (a := 367) (by decide) rfl rfl q2128 rfl rfl dX4_agree_4 ?_
  refine x_iload_n dX4_agree_7 rfl ?_
  refine m_iald (n := 5) rfl rfl (by decide) (by omega) dX4_agree_8 ?_
  refine x_icmp_ge (t := 183) dX4_agree_9 (by decide) (by omega) (fun c_9 => ?_) (fun c_9 => ?_)
  · skip
    refine x_iconst dX4_agree_183 ?_
    refine x_zret rfl dX4_agree_184 (by first | exact Or.inl rfl | exact Or.inr rfl | exact bi_01 _ | omega) (Nat.le_refl _) (Nat.le_refl _) ?_
    exact ⟨rT (fun j hj => hall j (by omega)), rfl, rfl⟩
  · skip
    refine x_iconst dX4_agree_12 ?_
    refine x_istore dX4_agree_13 (by decide) ?_
    have hp3 := p3 i (by omega)
    have hgi := getn i (by omega)
    have hni := hnk i (by omega) (by omega)
    rw [← hgi] at hni
    refine x_loc (ls2 := [some (vR (some 360)), some (vI (n : Int)), some (vI (m : Int)), some (vI (i : Int)), some (vI ((0 : Nat) : Int)), none, none, none, none]) (by repeat first | exact trivial | refine ⟨Or.inr rfl, ?_⟩ | refine ⟨Or.inl rfl, ?_⟩) ?_
    refine rr_ind (W := fun k : Nat => mm G yX4_agree cX4_agree 9 (some FieldType.boolean) 1 nx _ _ 15 [some (vR (some 360)), some (vI (n : Int)), some (vI (m : Int)), some (vI (i : Int)), some (vI (k : Int)), none, none, none, none] [] I) (fun k => (nmL I m).length - k) (fun k => k ≤ (nmL I m).length ∧ ∀ j, j < k → agP (I 383) (p.1.getD i 0) (q.1.getD j 0) ((nmL I n).getD i 0) ((nmL I m).getD j 0)) ?_ 0 ⟨by omega, fun j hj => by omega⟩
    rintro k ⟨hk, hak⟩ ih2
    refine x_iload dX4_agree_15 rfl ?_
    refine x_aload_n dX4_agree_17 rfl ?_
    refine m_getA (kf := 13) 13 (a := 367) (by decide) rfl rfl q2128 rfl rfl dX4_agree_18 ?_
    refine x_iload_n dX4_agree_21 rfl ?_
    refine m_iald (n := 5) rfl rfl (by decide) (by omega) dX4_agree_22 ?_
    refine x_icmp_ge (t := 177) dX4_agree_23 (by decide) (by omega) (fun c_23 => ?_) (fun c_23 => ?_)
    · skip
      have hgo := ih (i + 1) ⟨by omega, fun j hj => by
        by_cases e : j = i
        · rw [e]; exact fun k' hk' => hak k' (by omega)
        · exact hall j (by omega)⟩ (by omega)
      refine x_iinc dX4_agree_177 rfl (by decide) ?_
      refine x_goto (t := 2) dX4_agree_180 (by decide) ?_
      exact x_loc (by rw [show ((i + 1 : Nat) : Int) = (i : Int) + 1 by omega]; exact (by repeat first | exact trivial | refine ⟨Or.inr rfl, ?_⟩ | refine ⟨Or.inl rfl, ?_⟩)) hgo
    · skip
      have hq3 := q3 k (by omega)
      have hgk := getm k (by omega)
      have hmk2 := hmk k (by omega) (by omega)
      rw [← hgk] at hmk2
      have ga0 := hgr 0 _ (Or.inl rfl) hp3.2.1 hp3.2.2
      have ga1 := hgr 1 _ (Or.inr rfl) hp3.2.1 hp3.2.2
      have gb0 := hgr 0 _ (Or.inl rfl) hq3.2.1 hq3.2.2
      have gb1 := hgr 1 _ (Or.inr rfl) hq3.2.1 hq3.2.2
      rw [show ∀ z : Int, 20 * 0 + z = z from fun z => by omega] at ga0 gb0
      rw [show ∀ z : Int, 20 * 1 + z = 20 + z from fun z => by omega] at ga1 gb1
      have hgo : agP (I 383) (p.1.getD i 0) (q.1.getD k 0) ((nmL I n).getD i 0) ((nmL I m).getD k 0) → mm G yX4_agree cX4_agree 9 (some FieldType.boolean) 1 nx _ _ 15 [some (vR (some 360)), some (vI (n : Int)), some (vI (m : Int)), some (vI (i : Int)), some (vI ((k + 1 : Nat) : Int)), none, none, none, none] [] I := fun z => ih2 (k + 1) ⟨by omega, fun j hj => by
        by_cases e : j = k
        · rw [e]; exact z
        · exact hak j (by omega)⟩ (by omega)
      have hbad : ¬ agP (I 383) (p.1.getD i 0) (q.1.getD k 0) ((nmL I n).getD i 0) ((nmL I m).getD k 0) → ¬ agW (I 383) p.1 (nmL I n) q.1 (nmL I m) := fun z y => z (y i (by omega) k (by omega))
      refine x_aload_n dX4_agree_26 rfl ?_
      refine x_aload_n dX4_agree_27 rfl ?_
      refine m_getA (kf := 38) 38 (a := 386) (by decide) rfl rfl q2153 rfl rfl dX4_agree_28 ?_
      refine x_iload_n dX4_agree_31 rfl ?_
      refine m_iald (n := 4) rfl rfl (by decide) (by omega) dX4_agree_32 ?_
      rw [gn]
      refine x_iload_n dX4_agree_33 rfl ?_
      refine m_cv2 (c_wordSign (by omega) (by omega)) fX4_wordSign q2654 (by decide) (Nat.le_of_ble_eq_true rfl) dX4_agree_34 ?_
      rw [hp3.1]
      refine x_istore dX4_agree_37 (by decide) ?_
      refine x_aload_n dX4_agree_39 rfl ?_
      refine x_aload_n dX4_agree_40 rfl ?_
      refine m_getA (kf := 38) 38 (a := 386) (by decide) rfl rfl q2153 rfl rfl dX4_agree_41 ?_
      refine x_iload_n dX4_agree_44 rfl ?_
      refine m_iald (n := 4) rfl rfl (by decide) (by omega) dX4_agree_45 ?_
      rw [gm]
      refine x_iload dX4_agree_46 rfl ?_
      refine m_cv2 (c_wordSign (by omega) (by omega)) fX4_wordSign q2654 (by decide) (Nat.le_of_ble_eq_true rfl) dX4_agree_48 ?_
      rw [hq3.1]
      refine x_istore dX4_agree_51 (by decide) ?_
      refine x_aload_n dX4_agree_53 rfl ?_
      refine m_getA (kf := 14) 14 (a := 368) (by decide) rfl rfl q2129 rfl rfl dX4_agree_54 ?_
      refine x_bipush dX4_agree_57 (by decide) ?_
      refine x_iload_n dX4_agree_59 rfl ?_
      refine x_imul dX4_agree_60 ?_
      refine x_iload_n dX4_agree_61 rfl ?_
      refine x_iadd dX4_agree_62 ?_
      refine m_iald (n := 35) rfl rfl (by decide) (by omega) dX4_agree_63 ?_
      rw [← hgi]
      refine x_istore dX4_agree_64 (by decide) ?_
      refine x_aload_n dX4_agree_66 rfl ?_
      refine m_getA (kf := 14) 14 (a := 368) (by decide) rfl rfl q2129 rfl rfl dX4_agree_67 ?_
      refine x_bipush dX4_agree_70 (by decide) ?_
      refine x_iload_n dX4_agree_72 rfl ?_
      refine x_imul dX4_agree_73 ?_
      refine x_iload dX4_agree_74 rfl ?_
      refine x_iadd dX4_agree_76 ?_
      refine m_iald (n := 35) rfl rfl (by decide) (by omega) dX4_agree_77 ?_
      rw [← hgk]
      refine x_istore dX4_agree_78 (by decide) ?_
      have ra := hp3.2
      have rb := hq3.2
      clear hp3 hq3 hgi hgk p3 q3
      generalize p.1.getD i 0 = a at *
      generalize q.1.getD k 0 = b at *
      generalize (nmL I n).getD i 0 = x at *
      generalize (nmL I m).getD k 0 = y at *
      refine x_ls (ls2 := [some (vR (some 360)), some (vI (n : Int)), some (vI (m : Int)), some (vI (i : Int)), some (vI (k : Int)), some (vI a), some (vI b), some (vI x), some (vI y)]) rfl ?_
      refine x_iload dX4_agree_80 rfl ?_
      refine x_iload dX4_agree_82 rfl ?_
      refine x_icmp_ne (t := 91) dX4_agree_84 (by decide) (by omega) (fun c_84 => ?_) (fun c_84 => ?_)
      · skip
        refine x_iconst dX4_agree_91 ?_
        refine x_top (bi (a = b)) (by first | exact (bi_t c_84).symm | exact (bi_f c_84).symm) ?_
        have hb1 := bi_01 (a = b)
        refine x_iload dX4_agree_92 rfl ?_
        refine x_iload dX4_agree_94 rfl ?_
        refine x_icmp_ne (t := 103) dX4_agree_96 (by decide) (by omega) (fun c_96 => ?_) (fun c_96 => ?_)
        · skip
          refine x_iconst dX4_agree_103 ?_
          refine x_top (bi (x = y)) (by first | exact (bi_t c_96).symm | exact (bi_f c_96).symm) ?_
          have hb2 := bi_01 (x = y)
          refine x_icmp_ne (t := 169) dX4_agree_104 (by decide) (by omega) (fun c_104 => ?_) (fun c_104 => ?_)
          · skip
            have hno : ¬ agP (I 383) a b x y := fun z => c_104 (bi_iff z.1)
            refine x_iconst dX4_agree_169 ?_
            refine x_zret rfl dX4_agree_170 (by first | exact Or.inl rfl | exact Or.inr rfl | exact bi_01 _ | omega) (Nat.le_refl _) (Nat.le_refl _) ?_
            exact ⟨rF (hbad hno), rfl, rfl⟩
          · skip
            have hiff : a = b ↔ x = y := by
              constructor
              · intro z
                rw [bi_t z] at c_104
                exact Classical.byContradiction fun w => by rw [bi_f w] at c_104; omega
              · intro z
                rw [bi_t z] at c_104
                exact Classical.byContradiction fun w => by rw [bi_f w] at c_104; omega
            refine x_aload_n dX4_agree_107 rfl ?_
            refine m_getA (kf := 35) 35 (a := 383) (by decide) rfl rfl q2150 rfl rfl dX4_agree_108 ?_
            refine x_iload dX4_agree_111 rfl ?_
            refine m_iald (n := 40) rfl rfl (by decide) (by omega) dX4_agree_113 ?_
            refine x_aload_n dX4_agree_114 rfl ?_
            refine m_getA (kf := 35) 35 (a := 383) (by decide) rfl rfl q2150 rfl rfl dX4_agree_115 ?_
            refine x_iload dX4_agree_118 rfl ?_
            refine m_iald (n := 40) rfl rfl (by decide) (by omega) dX4_agree_120 ?_
            refine x_icmp_ne (t := 135) dX4_agree_121 (by decide) (by omega) (fun c_121 => ?_) (fun c_121 => ?_)
            · skip
              have hl1 : I 383 a = I 383 b → x / 5 = y / 5 := fun z => absurd z c_121
              refine x_aload_n dX4_agree_135 rfl ?_
              refine m_getA (kf := 35) 35 (a := 383) (by decide) rfl rfl q2150 rfl rfl dX4_agree_136 ?_
              refine x_bipush dX4_agree_139 (by decide) ?_
              refine x_iload dX4_agree_141 rfl ?_
              refine x_iadd dX4_agree_143 ?_
              refine m_iald (n := 40) rfl rfl (by decide) (by omega) dX4_agree_144 ?_
              refine x_aload_n dX4_agree_145 rfl ?_
              refine m_getA (kf := 35) 35 (a := 383) (by decide) rfl rfl q2150 rfl rfl dX4_agree_146 ?_
              refine x_bipush dX4_agree_149 (by decide) ?_
              refine x_iload dX4_agree_151 rfl ?_
              refine x_iadd dX4_agree_153 ?_
              refine m_iald (n := 40) rfl rfl (by decide) (by omega) dX4_agree_154 ?_
              refine x_icmp_ne (t := 171) dX4_agree_155 (by decide) (by omega) (fun c_155 => ?_) (fun c_155 => ?_)
              · skip
                have hl2 : I 383 (20 + a) = I 383 (20 + b) → x % 5 = y % 5 := fun z => absurd z c_155
                refine x_iinc dX4_agree_171 rfl (by decide) ?_
                refine x_goto (t := 15) dX4_agree_174 (by decide) ?_
                exact x_loc (by rw [show ((k + 1 : Nat) : Int) = (k : Int) + 1 by omega]; exact (by repeat first | exact trivial | refine ⟨Or.inr rfl, ?_⟩ | refine ⟨Or.inl rfl, ?_⟩)) (hgo ⟨hiff, hl1, hl2⟩)
              · skip
                refine x_iload dX4_agree_158 rfl ?_
                refine x_iconst dX4_agree_160 ?_
                refine x_irem dX4_agree_161 (by omega) (by omega) ?_
                refine x_iload dX4_agree_162 rfl ?_
                refine x_iconst dX4_agree_164 ?_
                refine x_irem dX4_agree_165 (by omega) (by omega) ?_
                refine x_icmp_eq (t := 171) dX4_agree_166 (by decide) (by omega) (fun c_166 => ?_) (fun c_166 => ?_)
                · skip
                  have hl2 : I 383 (20 + a) = I 383 (20 + b) → x % 5 = y % 5 := fun _ => c_166
                  refine x_iinc dX4_agree_171 rfl (by decide) ?_
                  refine x_goto (t := 15) dX4_agree_174 (by decide) ?_
                  exact x_loc (by rw [show ((k + 1 : Nat) : Int) = (k : Int) + 1 by omega]; exact (by repeat first | exact trivial | refine ⟨Or.inr rfl, ?_⟩ | refine ⟨Or.inl rfl, ?_⟩)) (hgo ⟨hiff, hl1, hl2⟩)
                · skip
                  have hno : ¬ agP (I 383) a b x y := fun z => c_166 (z.2.2 c_155)
                  refine x_iconst dX4_agree_169 ?_
                  refine x_zret rfl dX4_agree_170 (by first | exact Or.inl rfl | exact Or.inr rfl | exact bi_01 _ | omega) (Nat.le_refl _) (Nat.le_refl _) ?_
                  exact ⟨rF (hbad hno), rfl, rfl⟩
            · skip
              refine x_iload dX4_agree_124 rfl ?_
              refine x_iconst dX4_agree_126 ?_
              refine x_idiv dX4_agree_127 (by omega) (by omega) ?_
              refine x_iload dX4_agree_128 rfl ?_
              refine x_iconst dX4_agree_130 ?_
              refine x_idiv dX4_agree_131 (by omega) (by omega) ?_
              refine x_icmp_ne (t := 169) dX4_agree_132 (by decide) (by omega) (fun c_132 => ?_) (fun c_132 => ?_)
              · skip
                have hno : ¬ agP (I 383) a b x y := fun z => c_132 (z.2.1 c_121)
                refine x_iconst dX4_agree_169 ?_
                refine x_zret rfl dX4_agree_170 (by first | exact Or.inl rfl | exact Or.inr rfl | exact bi_01 _ | omega) (Nat.le_refl _) (Nat.le_refl _) ?_
                exact ⟨rF (hbad hno), rfl, rfl⟩
              · skip
                have hl1 : I 383 a = I 383 b → x / 5 = y / 5 := fun _ => c_132
                refine x_aload_n dX4_agree_135 rfl ?_
                refine m_getA (kf := 35) 35 (a := 383) (by decide) rfl rfl q2150 rfl rfl dX4_agree_136 ?_
                refine x_bipush dX4_agree_139 (by decide) ?_
                refine x_iload dX4_agree_141 rfl ?_
                refine x_iadd dX4_agree_143 ?_
                refine m_iald (n := 40) rfl rfl (by decide) (by omega) dX4_agree_144 ?_
                refine x_aload_n dX4_agree_145 rfl ?_
                refine m_getA (kf := 35) 35 (a := 383) (by decide) rfl rfl q2150 rfl rfl dX4_agree_146 ?_
                refine x_bipush dX4_agree_149 (by decide) ?_
                refine x_iload dX4_agree_151 rfl ?_
                refine x_iadd dX4_agree_153 ?_
                refine m_iald (n := 40) rfl rfl (by decide) (by omega) dX4_agree_154 ?_
                refine x_icmp_ne (t := 171) dX4_agree_155 (by decide) (by omega) (fun c_155 => ?_) (fun c_155 => ?_)
                · skip
                  have hl2 : I 383 (20 + a) = I 383 (20 + b) → x % 5 = y % 5 := fun z => absurd z c_155
                  refine x_iinc dX4_agree_171 rfl (by decide) ?_
                  refine x_goto (t := 15) dX4_agree_174 (by decide) ?_
                  exact x_loc (by rw [show ((k + 1 : Nat) : Int) = (k : Int) + 1 by omega]; exact (by repeat first | exact trivial | refine ⟨Or.inr rfl, ?_⟩ | refine ⟨Or.inl rfl, ?_⟩)) (hgo ⟨hiff, hl1, hl2⟩)
                · skip
                  refine x_iload dX4_agree_158 rfl ?_
                  refine x_iconst dX4_agree_160 ?_
                  refine x_irem dX4_agree_161 (by omega) (by omega) ?_
                  refine x_iload dX4_agree_162 rfl ?_
                  refine x_iconst dX4_agree_164 ?_
                  refine x_irem dX4_agree_165 (by omega) (by omega) ?_
                  refine x_icmp_eq (t := 171) dX4_agree_166 (by decide) (by omega) (fun c_166 => ?_) (fun c_166 => ?_)
                  · skip
                    have hl2 : I 383 (20 + a) = I 383 (20 + b) → x % 5 = y % 5 := fun _ => c_166
                    refine x_iinc dX4_agree_171 rfl (by decide) ?_
                    refine x_goto (t := 15) dX4_agree_174 (by decide) ?_
                    exact x_loc (by rw [show ((k + 1 : Nat) : Int) = (k : Int) + 1 by omega]; exact (by repeat first | exact trivial | refine ⟨Or.inr rfl, ?_⟩ | refine ⟨Or.inl rfl, ?_⟩)) (hgo ⟨hiff, hl1, hl2⟩)
                  · skip
                    have hno : ¬ agP (I 383) a b x y := fun z => c_166 (z.2.2 c_155)
                    refine x_iconst dX4_agree_169 ?_
                    refine x_zret rfl dX4_agree_170 (by first | exact Or.inl rfl | exact Or.inr rfl | exact bi_01 _ | omega) (Nat.le_refl _) (Nat.le_refl _) ?_
                    exact ⟨rF (hbad hno), rfl, rfl⟩
        · skip
          refine x_iconst dX4_agree_99 ?_
          refine x_goto (t := 104) dX4_agree_100 (by decide) ?_
          refine x_top (bi (x = y)) (by first | exact (bi_t c_96).symm | exact (bi_f c_96).symm) ?_
          have hb2 := bi_01 (x = y)
          refine x_icmp_ne (t := 169) dX4_agree_104 (by decide) (by omega) (fun c_104 => ?_) (fun c_104 => ?_)
          · skip
            have hno : ¬ agP (I 383) a b x y := fun z => c_104 (bi_iff z.1)
            refine x_iconst dX4_agree_169 ?_
            refine x_zret rfl dX4_agree_170 (by first | exact Or.inl rfl | exact Or.inr rfl | exact bi_01 _ | omega) (Nat.le_refl _) (Nat.le_refl _) ?_
            exact ⟨rF (hbad hno), rfl, rfl⟩
          · skip
            have hiff : a = b ↔ x = y := by
              constructor
              · intro z
                rw [bi_t z] at c_104
                exact Classical.byContradiction fun w => by rw [bi_f w] at c_104; omega
              · intro z
                rw [bi_t z] at c_104
                exact Classical.byContradiction fun w => by rw [bi_f w] at c_104; omega
            refine x_aload_n dX4_agree_107 rfl ?_
            refine m_getA (kf := 35) 35 (a := 383) (by decide) rfl rfl q2150 rfl rfl dX4_agree_108 ?_
            refine x_iload dX4_agree_111 rfl ?_
            refine m_iald (n := 40) rfl rfl (by decide) (by omega) dX4_agree_113 ?_
            refine x_aload_n dX4_agree_114 rfl ?_
            refine m_getA (kf := 35) 35 (a := 383) (by decide) rfl rfl q2150 rfl rfl dX4_agree_115 ?_
            refine x_iload dX4_agree_118 rfl ?_
            refine m_iald (n := 40) rfl rfl (by decide) (by omega) dX4_agree_120 ?_
            refine x_icmp_ne (t := 135) dX4_agree_121 (by decide) (by omega) (fun c_121 => ?_) (fun c_121 => ?_)
            · skip
              have hl1 : I 383 a = I 383 b → x / 5 = y / 5 := fun z => absurd z c_121
              refine x_aload_n dX4_agree_135 rfl ?_
              refine m_getA (kf := 35) 35 (a := 383) (by decide) rfl rfl q2150 rfl rfl dX4_agree_136 ?_
              refine x_bipush dX4_agree_139 (by decide) ?_
              refine x_iload dX4_agree_141 rfl ?_
              refine x_iadd dX4_agree_143 ?_
              refine m_iald (n := 40) rfl rfl (by decide) (by omega) dX4_agree_144 ?_
              refine x_aload_n dX4_agree_145 rfl ?_
              refine m_getA (kf := 35) 35 (a := 383) (by decide) rfl rfl q2150 rfl rfl dX4_agree_146 ?_
              refine x_bipush dX4_agree_149 (by decide) ?_
              refine x_iload dX4_agree_151 rfl ?_
              refine x_iadd dX4_agree_153 ?_
              refine m_iald (n := 40) rfl rfl (by decide) (by omega) dX4_agree_154 ?_
              refine x_icmp_ne (t := 171) dX4_agree_155 (by decide) (by omega) (fun c_155 => ?_) (fun c_155 => ?_)
              · skip
                have hl2 : I 383 (20 + a) = I 383 (20 + b) → x % 5 = y % 5 := fun z => absurd z c_155
                refine x_iinc dX4_agree_171 rfl (by decide) ?_
                refine x_goto (t := 15) dX4_agree_174 (by decide) ?_
                exact x_loc (by rw [show ((k + 1 : Nat) : Int) = (k : Int) + 1 by omega]; exact (by repeat first | exact trivial | refine ⟨Or.inr rfl, ?_⟩ | refine ⟨Or.inl rfl, ?_⟩)) (hgo ⟨hiff, hl1, hl2⟩)
              · skip
                refine x_iload dX4_agree_158 rfl ?_
                refine x_iconst dX4_agree_160 ?_
                refine x_irem dX4_agree_161 (by omega) (by omega) ?_
                refine x_iload dX4_agree_162 rfl ?_
                refine x_iconst dX4_agree_164 ?_
                refine x_irem dX4_agree_165 (by omega) (by omega) ?_
                refine x_icmp_eq (t := 171) dX4_agree_166 (by decide) (by omega) (fun c_166 => ?_) (fun c_166 => ?_)
                · skip
                  have hl2 : I 383 (20 + a) = I 383 (20 + b) → x % 5 = y % 5 := fun _ => c_166
                  refine x_iinc dX4_agree_171 rfl (by decide) ?_
                  refine x_goto (t := 15) dX4_agree_174 (by decide) ?_
                  exact x_loc (by rw [show ((k + 1 : Nat) : Int) = (k : Int) + 1 by omega]; exact (by repeat first | exact trivial | refine ⟨Or.inr rfl, ?_⟩ | refine ⟨Or.inl rfl, ?_⟩)) (hgo ⟨hiff, hl1, hl2⟩)
                · skip
                  have hno : ¬ agP (I 383) a b x y := fun z => c_166 (z.2.2 c_155)
                  refine x_iconst dX4_agree_169 ?_
                  refine x_zret rfl dX4_agree_170 (by first | exact Or.inl rfl | exact Or.inr rfl | exact bi_01 _ | omega) (Nat.le_refl _) (Nat.le_refl _) ?_
                  exact ⟨rF (hbad hno), rfl, rfl⟩
            · skip
              refine x_iload dX4_agree_124 rfl ?_
              refine x_iconst dX4_agree_126 ?_
              refine x_idiv dX4_agree_127 (by omega) (by omega) ?_
              refine x_iload dX4_agree_128 rfl ?_
              refine x_iconst dX4_agree_130 ?_
              refine x_idiv dX4_agree_131 (by omega) (by omega) ?_
              refine x_icmp_ne (t := 169) dX4_agree_132 (by decide) (by omega) (fun c_132 => ?_) (fun c_132 => ?_)
              · skip
                have hno : ¬ agP (I 383) a b x y := fun z => c_132 (z.2.1 c_121)
                refine x_iconst dX4_agree_169 ?_
                refine x_zret rfl dX4_agree_170 (by first | exact Or.inl rfl | exact Or.inr rfl | exact bi_01 _ | omega) (Nat.le_refl _) (Nat.le_refl _) ?_
                exact ⟨rF (hbad hno), rfl, rfl⟩
              · skip
                have hl1 : I 383 a = I 383 b → x / 5 = y / 5 := fun _ => c_132
                refine x_aload_n dX4_agree_135 rfl ?_
                refine m_getA (kf := 35) 35 (a := 383) (by decide) rfl rfl q2150 rfl rfl dX4_agree_136 ?_
                refine x_bipush dX4_agree_139 (by decide) ?_
                refine x_iload dX4_agree_141 rfl ?_
                refine x_iadd dX4_agree_143 ?_
                refine m_iald (n := 40) rfl rfl (by decide) (by omega) dX4_agree_144 ?_
                refine x_aload_n dX4_agree_145 rfl ?_
                refine m_getA (kf := 35) 35 (a := 383) (by decide) rfl rfl q2150 rfl rfl dX4_agree_146 ?_
                refine x_bipush dX4_agree_149 (by decide) ?_
                refine x_iload dX4_agree_151 rfl ?_
                refine x_iadd dX4_agree_153 ?_
                refine m_iald (n := 40) rfl rfl (by decide) (by omega) dX4_agree_154 ?_
                refine x_icmp_ne (t := 171) dX4_agree_155 (by decide) (by omega) (fun c_155 => ?_) (fun c_155 => ?_)
                · skip
                  have hl2 : I 383 (20 + a) = I 383 (20 + b) → x % 5 = y % 5 := fun z => absurd z c_155
                  refine x_iinc dX4_agree_171 rfl (by decide) ?_
                  refine x_goto (t := 15) dX4_agree_174 (by decide) ?_
                  exact x_loc (by rw [show ((k + 1 : Nat) : Int) = (k : Int) + 1 by omega]; exact (by repeat first | exact trivial | refine ⟨Or.inr rfl, ?_⟩ | refine ⟨Or.inl rfl, ?_⟩)) (hgo ⟨hiff, hl1, hl2⟩)
                · skip
                  refine x_iload dX4_agree_158 rfl ?_
                  refine x_iconst dX4_agree_160 ?_
                  refine x_irem dX4_agree_161 (by omega) (by omega) ?_
                  refine x_iload dX4_agree_162 rfl ?_
                  refine x_iconst dX4_agree_164 ?_
                  refine x_irem dX4_agree_165 (by omega) (by omega) ?_
                  refine x_icmp_eq (t := 171) dX4_agree_166 (by decide) (by omega) (fun c_166 => ?_) (fun c_166 => ?_)
                  · skip
                    have hl2 : I 383 (20 + a) = I 383 (20 + b) → x % 5 = y % 5 := fun _ => c_166
                    refine x_iinc dX4_agree_171 rfl (by decide) ?_
                    refine x_goto (t := 15) dX4_agree_174 (by decide) ?_
                    exact x_loc (by rw [show ((k + 1 : Nat) : Int) = (k : Int) + 1 by omega]; exact (by repeat first | exact trivial | refine ⟨Or.inr rfl, ?_⟩ | refine ⟨Or.inl rfl, ?_⟩)) (hgo ⟨hiff, hl1, hl2⟩)
                  · skip
                    have hno : ¬ agP (I 383) a b x y := fun z => c_166 (z.2.2 c_155)
                    refine x_iconst dX4_agree_169 ?_
                    refine x_zret rfl dX4_agree_170 (by first | exact Or.inl rfl | exact Or.inr rfl | exact bi_01 _ | omega) (Nat.le_refl _) (Nat.le_refl _) ?_
                    exact ⟨rF (hbad hno), rfl, rfl⟩
      · skip
        refine x_iconst dX4_agree_87 ?_
        refine x_goto (t := 92) dX4_agree_88 (by decide) ?_
        refine x_top (bi (a = b)) (by first | exact (bi_t c_84).symm | exact (bi_f c_84).symm) ?_
        have hb1 := bi_01 (a = b)
        refine x_iload dX4_agree_92 rfl ?_
        refine x_iload dX4_agree_94 rfl ?_
        refine x_icmp_ne (t := 103) dX4_agree_96 (by decide) (by omega) (fun c_96 => ?_) (fun c_96 => ?_)
        · skip
          refine x_iconst dX4_agree_103 ?_
          refine x_top (bi (x = y)) (by first | exact (bi_t c_96).symm | exact (bi_f c_96).symm) ?_
          have hb2 := bi_01 (x = y)
          refine x_icmp_ne (t := 169) dX4_agree_104 (by decide) (by omega) (fun c_104 => ?_) (fun c_104 => ?_)
          · skip
            have hno : ¬ agP (I 383) a b x y := fun z => c_104 (bi_iff z.1)
            refine x_iconst dX4_agree_169 ?_
            refine x_zret rfl dX4_agree_170 (by first | exact Or.inl rfl | exact Or.inr rfl | exact bi_01 _ | omega) (Nat.le_refl _) (Nat.le_refl _) ?_
            exact ⟨rF (hbad hno), rfl, rfl⟩
          · skip
            have hiff : a = b ↔ x = y := by
              constructor
              · intro z
                rw [bi_t z] at c_104
                exact Classical.byContradiction fun w => by rw [bi_f w] at c_104; omega
              · intro z
                rw [bi_t z] at c_104
                exact Classical.byContradiction fun w => by rw [bi_f w] at c_104; omega
            refine x_aload_n dX4_agree_107 rfl ?_
            refine m_getA (kf := 35) 35 (a := 383) (by decide) rfl rfl q2150 rfl rfl dX4_agree_108 ?_
            refine x_iload dX4_agree_111 rfl ?_
            refine m_iald (n := 40) rfl rfl (by decide) (by omega) dX4_agree_113 ?_
            refine x_aload_n dX4_agree_114 rfl ?_
            refine m_getA (kf := 35) 35 (a := 383) (by decide) rfl rfl q2150 rfl rfl dX4_agree_115 ?_
            refine x_iload dX4_agree_118 rfl ?_
            refine m_iald (n := 40) rfl rfl (by decide) (by omega) dX4_agree_120 ?_
            refine x_icmp_ne (t := 135) dX4_agree_121 (by decide) (by omega) (fun c_121 => ?_) (fun c_121 => ?_)
            · skip
              have hl1 : I 383 a = I 383 b → x / 5 = y / 5 := fun z => absurd z c_121
              refine x_aload_n dX4_agree_135 rfl ?_
              refine m_getA (kf := 35) 35 (a := 383) (by decide) rfl rfl q2150 rfl rfl dX4_agree_136 ?_
              refine x_bipush dX4_agree_139 (by decide) ?_
              refine x_iload dX4_agree_141 rfl ?_
              refine x_iadd dX4_agree_143 ?_
              refine m_iald (n := 40) rfl rfl (by decide) (by omega) dX4_agree_144 ?_
              refine x_aload_n dX4_agree_145 rfl ?_
              refine m_getA (kf := 35) 35 (a := 383) (by decide) rfl rfl q2150 rfl rfl dX4_agree_146 ?_
              refine x_bipush dX4_agree_149 (by decide) ?_
              refine x_iload dX4_agree_151 rfl ?_
              refine x_iadd dX4_agree_153 ?_
              refine m_iald (n := 40) rfl rfl (by decide) (by omega) dX4_agree_154 ?_
              refine x_icmp_ne (t := 171) dX4_agree_155 (by decide) (by omega) (fun c_155 => ?_) (fun c_155 => ?_)
              · skip
                have hl2 : I 383 (20 + a) = I 383 (20 + b) → x % 5 = y % 5 := fun z => absurd z c_155
                refine x_iinc dX4_agree_171 rfl (by decide) ?_
                refine x_goto (t := 15) dX4_agree_174 (by decide) ?_
                exact x_loc (by rw [show ((k + 1 : Nat) : Int) = (k : Int) + 1 by omega]; exact (by repeat first | exact trivial | refine ⟨Or.inr rfl, ?_⟩ | refine ⟨Or.inl rfl, ?_⟩)) (hgo ⟨hiff, hl1, hl2⟩)
              · skip
                refine x_iload dX4_agree_158 rfl ?_
                refine x_iconst dX4_agree_160 ?_
                refine x_irem dX4_agree_161 (by omega) (by omega) ?_
                refine x_iload dX4_agree_162 rfl ?_
                refine x_iconst dX4_agree_164 ?_
                refine x_irem dX4_agree_165 (by omega) (by omega) ?_
                refine x_icmp_eq (t := 171) dX4_agree_166 (by decide) (by omega) (fun c_166 => ?_) (fun c_166 => ?_)
                · skip
                  have hl2 : I 383 (20 + a) = I 383 (20 + b) → x % 5 = y % 5 := fun _ => c_166
                  refine x_iinc dX4_agree_171 rfl (by decide) ?_
                  refine x_goto (t := 15) dX4_agree_174 (by decide) ?_
                  exact x_loc (by rw [show ((k + 1 : Nat) : Int) = (k : Int) + 1 by omega]; exact (by repeat first | exact trivial | refine ⟨Or.inr rfl, ?_⟩ | refine ⟨Or.inl rfl, ?_⟩)) (hgo ⟨hiff, hl1, hl2⟩)
                · skip
                  have hno : ¬ agP (I 383) a b x y := fun z => c_166 (z.2.2 c_155)
                  refine x_iconst dX4_agree_169 ?_
                  refine x_zret rfl dX4_agree_170 (by first | exact Or.inl rfl | exact Or.inr rfl | exact bi_01 _ | omega) (Nat.le_refl _) (Nat.le_refl _) ?_
                  exact ⟨rF (hbad hno), rfl, rfl⟩
            · skip
              refine x_iload dX4_agree_124 rfl ?_
              refine x_iconst dX4_agree_126 ?_
              refine x_idiv dX4_agree_127 (by omega) (by omega) ?_
              refine x_iload dX4_agree_128 rfl ?_
              refine x_iconst dX4_agree_130 ?_
              refine x_idiv dX4_agree_131 (by omega) (by omega) ?_
              refine x_icmp_ne (t := 169) dX4_agree_132 (by decide) (by omega) (fun c_132 => ?_) (fun c_132 => ?_)
              · skip
                have hno : ¬ agP (I 383) a b x y := fun z => c_132 (z.2.1 c_121)
                refine x_iconst dX4_agree_169 ?_
                refine x_zret rfl dX4_agree_170 (by first | exact Or.inl rfl | exact Or.inr rfl | exact bi_01 _ | omega) (Nat.le_refl _) (Nat.le_refl _) ?_
                exact ⟨rF (hbad hno), rfl, rfl⟩
              · skip
                have hl1 : I 383 a = I 383 b → x / 5 = y / 5 := fun _ => c_132
                refine x_aload_n dX4_agree_135 rfl ?_
                refine m_getA (kf := 35) 35 (a := 383) (by decide) rfl rfl q2150 rfl rfl dX4_agree_136 ?_
                refine x_bipush dX4_agree_139 (by decide) ?_
                refine x_iload dX4_agree_141 rfl ?_
                refine x_iadd dX4_agree_143 ?_
                refine m_iald (n := 40) rfl rfl (by decide) (by omega) dX4_agree_144 ?_
                refine x_aload_n dX4_agree_145 rfl ?_
                refine m_getA (kf := 35) 35 (a := 383) (by decide) rfl rfl q2150 rfl rfl dX4_agree_146 ?_
                refine x_bipush dX4_agree_149 (by decide) ?_
                refine x_iload dX4_agree_151 rfl ?_
                refine x_iadd dX4_agree_153 ?_
                refine m_iald (n := 40) rfl rfl (by decide) (by omega) dX4_agree_154 ?_
                refine x_icmp_ne (t := 171) dX4_agree_155 (by decide) (by omega) (fun c_155 => ?_) (fun c_155 => ?_)
                · skip
                  have hl2 : I 383 (20 + a) = I 383 (20 + b) → x % 5 = y % 5 := fun z => absurd z c_155
                  refine x_iinc dX4_agree_171 rfl (by decide) ?_
                  refine x_goto (t := 15) dX4_agree_174 (by decide) ?_
                  exact x_loc (by rw [show ((k + 1 : Nat) : Int) = (k : Int) + 1 by omega]; exact (by repeat first | exact trivial | refine ⟨Or.inr rfl, ?_⟩ | refine ⟨Or.inl rfl, ?_⟩)) (hgo ⟨hiff, hl1, hl2⟩)
                · skip
                  refine x_iload dX4_agree_158 rfl ?_
                  refine x_iconst dX4_agree_160 ?_
                  refine x_irem dX4_agree_161 (by omega) (by omega) ?_
                  refine x_iload dX4_agree_162 rfl ?_
                  refine x_iconst dX4_agree_164 ?_
                  refine x_irem dX4_agree_165 (by omega) (by omega) ?_
                  refine x_icmp_eq (t := 171) dX4_agree_166 (by decide) (by omega) (fun c_166 => ?_) (fun c_166 => ?_)
                  · skip
                    have hl2 : I 383 (20 + a) = I 383 (20 + b) → x % 5 = y % 5 := fun _ => c_166
                    refine x_iinc dX4_agree_171 rfl (by decide) ?_
                    refine x_goto (t := 15) dX4_agree_174 (by decide) ?_
                    exact x_loc (by rw [show ((k + 1 : Nat) : Int) = (k : Int) + 1 by omega]; exact (by repeat first | exact trivial | refine ⟨Or.inr rfl, ?_⟩ | refine ⟨Or.inl rfl, ?_⟩)) (hgo ⟨hiff, hl1, hl2⟩)
                  · skip
                    have hno : ¬ agP (I 383) a b x y := fun z => c_166 (z.2.2 c_155)
                    refine x_iconst dX4_agree_169 ?_
                    refine x_zret rfl dX4_agree_170 (by first | exact Or.inl rfl | exact Or.inr rfl | exact bi_01 _ | omega) (Nat.le_refl _) (Nat.le_refl _) ?_
                    exact ⟨rF (hbad hno), rfl, rfl⟩
        · skip
          refine x_iconst dX4_agree_99 ?_
          refine x_goto (t := 104) dX4_agree_100 (by decide) ?_
          refine x_top (bi (x = y)) (by first | exact (bi_t c_96).symm | exact (bi_f c_96).symm) ?_
          have hb2 := bi_01 (x = y)
          refine x_icmp_ne (t := 169) dX4_agree_104 (by decide) (by omega) (fun c_104 => ?_) (fun c_104 => ?_)
          · skip
            have hno : ¬ agP (I 383) a b x y := fun z => c_104 (bi_iff z.1)
            refine x_iconst dX4_agree_169 ?_
            refine x_zret rfl dX4_agree_170 (by first | exact Or.inl rfl | exact Or.inr rfl | exact bi_01 _ | omega) (Nat.le_refl _) (Nat.le_refl _) ?_
            exact ⟨rF (hbad hno), rfl, rfl⟩
          · skip
            have hiff : a = b ↔ x = y := by
              constructor
              · intro z
                rw [bi_t z] at c_104
                exact Classical.byContradiction fun w => by rw [bi_f w] at c_104; omega
              · intro z
                rw [bi_t z] at c_104
                exact Classical.byContradiction fun w => by rw [bi_f w] at c_104; omega
            refine x_aload_n dX4_agree_107 rfl ?_
            refine m_getA (kf := 35) 35 (a := 383) (by decide) rfl rfl q2150 rfl rfl dX4_agree_108 ?_
            refine x_iload dX4_agree_111 rfl ?_
            refine m_iald (n := 40) rfl rfl (by decide) (by omega) dX4_agree_113 ?_
            refine x_aload_n dX4_agree_114 rfl ?_
            refine m_getA (kf := 35) 35 (a := 383) (by decide) rfl rfl q2150 rfl rfl dX4_agree_115 ?_
            refine x_iload dX4_agree_118 rfl ?_
            refine m_iald (n := 40) rfl rfl (by decide) (by omega) dX4_agree_120 ?_
            refine x_icmp_ne (t := 135) dX4_agree_121 (by decide) (by omega) (fun c_121 => ?_) (fun c_121 => ?_)
            · skip
              have hl1 : I 383 a = I 383 b → x / 5 = y / 5 := fun z => absurd z c_121
              refine x_aload_n dX4_agree_135 rfl ?_
              refine m_getA (kf := 35) 35 (a := 383) (by decide) rfl rfl q2150 rfl rfl dX4_agree_136 ?_
              refine x_bipush dX4_agree_139 (by decide) ?_
              refine x_iload dX4_agree_141 rfl ?_
              refine x_iadd dX4_agree_143 ?_
              refine m_iald (n := 40) rfl rfl (by decide) (by omega) dX4_agree_144 ?_
              refine x_aload_n dX4_agree_145 rfl ?_
              refine m_getA (kf := 35) 35 (a := 383) (by decide) rfl rfl q2150 rfl rfl dX4_agree_146 ?_
              refine x_bipush dX4_agree_149 (by decide) ?_
              refine x_iload dX4_agree_151 rfl ?_
              refine x_iadd dX4_agree_153 ?_
              refine m_iald (n := 40) rfl rfl (by decide) (by omega) dX4_agree_154 ?_
              refine x_icmp_ne (t := 171) dX4_agree_155 (by decide) (by omega) (fun c_155 => ?_) (fun c_155 => ?_)
              · skip
                have hl2 : I 383 (20 + a) = I 383 (20 + b) → x % 5 = y % 5 := fun z => absurd z c_155
                refine x_iinc dX4_agree_171 rfl (by decide) ?_
                refine x_goto (t := 15) dX4_agree_174 (by decide) ?_
                exact x_loc (by rw [show ((k + 1 : Nat) : Int) = (k : Int) + 1 by omega]; exact (by repeat first | exact trivial | refine ⟨Or.inr rfl, ?_⟩ | refine ⟨Or.inl rfl, ?_⟩)) (hgo ⟨hiff, hl1, hl2⟩)
              · skip
                refine x_iload dX4_agree_158 rfl ?_
                refine x_iconst dX4_agree_160 ?_
                refine x_irem dX4_agree_161 (by omega) (by omega) ?_
                refine x_iload dX4_agree_162 rfl ?_
                refine x_iconst dX4_agree_164 ?_
                refine x_irem dX4_agree_165 (by omega) (by omega) ?_
                refine x_icmp_eq (t := 171) dX4_agree_166 (by decide) (by omega) (fun c_166 => ?_) (fun c_166 => ?_)
                · skip
                  have hl2 : I 383 (20 + a) = I 383 (20 + b) → x % 5 = y % 5 := fun _ => c_166
                  refine x_iinc dX4_agree_171 rfl (by decide) ?_
                  refine x_goto (t := 15) dX4_agree_174 (by decide) ?_
                  exact x_loc (by rw [show ((k + 1 : Nat) : Int) = (k : Int) + 1 by omega]; exact (by repeat first | exact trivial | refine ⟨Or.inr rfl, ?_⟩ | refine ⟨Or.inl rfl, ?_⟩)) (hgo ⟨hiff, hl1, hl2⟩)
                · skip
                  have hno : ¬ agP (I 383) a b x y := fun z => c_166 (z.2.2 c_155)
                  refine x_iconst dX4_agree_169 ?_
                  refine x_zret rfl dX4_agree_170 (by first | exact Or.inl rfl | exact Or.inr rfl | exact bi_01 _ | omega) (Nat.le_refl _) (Nat.le_refl _) ?_
                  exact ⟨rF (hbad hno), rfl, rfl⟩
            · skip
              refine x_iload dX4_agree_124 rfl ?_
              refine x_iconst dX4_agree_126 ?_
              refine x_idiv dX4_agree_127 (by omega) (by omega) ?_
              refine x_iload dX4_agree_128 rfl ?_
              refine x_iconst dX4_agree_130 ?_
              refine x_idiv dX4_agree_131 (by omega) (by omega) ?_
              refine x_icmp_ne (t := 169) dX4_agree_132 (by decide) (by omega) (fun c_132 => ?_) (fun c_132 => ?_)
              · skip
                have hno : ¬ agP (I 383) a b x y := fun z => c_132 (z.2.1 c_121)
                refine x_iconst dX4_agree_169 ?_
                refine x_zret rfl dX4_agree_170 (by first | exact Or.inl rfl | exact Or.inr rfl | exact bi_01 _ | omega) (Nat.le_refl _) (Nat.le_refl _) ?_
                exact ⟨rF (hbad hno), rfl, rfl⟩
              · skip
                have hl1 : I 383 a = I 383 b → x / 5 = y / 5 := fun _ => c_132
                refine x_aload_n dX4_agree_135 rfl ?_
                refine m_getA (kf := 35) 35 (a := 383) (by decide) rfl rfl q2150 rfl rfl dX4_agree_136 ?_
                refine x_bipush dX4_agree_139 (by decide) ?_
                refine x_iload dX4_agree_141 rfl ?_
                refine x_iadd dX4_agree_143 ?_
                refine m_iald (n := 40) rfl rfl (by decide) (by omega) dX4_agree_144 ?_
                refine x_aload_n dX4_agree_145 rfl ?_
                refine m_getA (kf := 35) 35 (a := 383) (by decide) rfl rfl q2150 rfl rfl dX4_agree_146 ?_
                refine x_bipush dX4_agree_149 (by decide) ?_
                refine x_iload dX4_agree_151 rfl ?_
                refine x_iadd dX4_agree_153 ?_
                refine m_iald (n := 40) rfl rfl (by decide) (by omega) dX4_agree_154 ?_
                refine x_icmp_ne (t := 171) dX4_agree_155 (by decide) (by omega) (fun c_155 => ?_) (fun c_155 => ?_)
                · skip
                  have hl2 : I 383 (20 + a) = I 383 (20 + b) → x % 5 = y % 5 := fun z => absurd z c_155
                  refine x_iinc dX4_agree_171 rfl (by decide) ?_
                  refine x_goto (t := 15) dX4_agree_174 (by decide) ?_
                  exact x_loc (by rw [show ((k + 1 : Nat) : Int) = (k : Int) + 1 by omega]; exact (by repeat first | exact trivial | refine ⟨Or.inr rfl, ?_⟩ | refine ⟨Or.inl rfl, ?_⟩)) (hgo ⟨hiff, hl1, hl2⟩)
                · skip
                  refine x_iload dX4_agree_158 rfl ?_
                  refine x_iconst dX4_agree_160 ?_
                  refine x_irem dX4_agree_161 (by omega) (by omega) ?_
                  refine x_iload dX4_agree_162 rfl ?_
                  refine x_iconst dX4_agree_164 ?_
                  refine x_irem dX4_agree_165 (by omega) (by omega) ?_
                  refine x_icmp_eq (t := 171) dX4_agree_166 (by decide) (by omega) (fun c_166 => ?_) (fun c_166 => ?_)
                  · skip
                    have hl2 : I 383 (20 + a) = I 383 (20 + b) → x % 5 = y % 5 := fun _ => c_166
                    refine x_iinc dX4_agree_171 rfl (by decide) ?_
                    refine x_goto (t := 15) dX4_agree_174 (by decide) ?_
                    exact x_loc (by rw [show ((k + 1 : Nat) : Int) = (k : Int) + 1 by omega]; exact (by repeat first | exact trivial | refine ⟨Or.inr rfl, ?_⟩ | refine ⟨Or.inl rfl, ?_⟩)) (hgo ⟨hiff, hl1, hl2⟩)
                  · skip
                    have hno : ¬ agP (I 383) a b x y := fun z => c_166 (z.2.2 c_155)
                    refine x_iconst dX4_agree_169 ?_
                    refine x_zret rfl dX4_agree_170 (by first | exact Or.inl rfl | exact Or.inr rfl | exact bi_01 _ | omega) (Nat.le_refl _) (Nat.le_refl _) ?_
                    exact ⟨rF (hbad hno), rfl, rfl⟩
