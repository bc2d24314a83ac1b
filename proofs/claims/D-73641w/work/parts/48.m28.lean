set_option maxRecDepth 100000
/-! THE MODEL's methods, 28: names that fit words -/
theorem rowsTo_F {I : Nat → Int → Int} (h : StOK I) (hs : SgOK I) (b : Int) : ∀ t : Nat, (t : Int) ≤ I 360 8 → ∀ l ∈ rowsTo I b t, ∀ c ∈ l, c < I 360 4 := by
  intro t
  induction t with
  | zero => intro _ l hl; simp [rowsTo] at hl
  | succ t ih =>
    intro ht l hl c hc
    simp only [rowsTo, List.mem_append] at hl
    rcases hl with hl | hl
    · exact ih (by omega) l hl c hc
    · simp only [rowsT, List.mem_map, List.mem_range] at hl
      obtain ⟨r, hr, rfl⟩ := hl
      have hrow := (h.2.2 t (by omega) (by omega)).2 r (by omega) (by omega)
      obtain ⟨k, hk, hne, rfl⟩ := rowS_mem I _ _ _ hc
      have h1 := hrow.1
      have hp : -1 ≤ plc I (4 * (t : Int) + r) (toLeft b r) k ∧ plc I (4 * (t : Int) + r) (toLeft b r) k < I 360 4 := by
        unfold plc
        split
        · exact hrow.2.1 _ (by omega) (by omega)
        · exact hrow.2.1 _ (by omega) (by omega)
      have := hs _ (show 0 ≤ plc I (4 * (t : Int) + r) (toLeft b r) k by omega) hp.2
      omega
theorem cutN_mem (R : List (List Int)) (rise : Int) (row : List Int) : ∀ k i w, w ∈ cutN R rise row k i → ∀ c ∈ w, c ∈ row := by
  intro k
  induction k with
  | zero => intro i w hw; simp [cutN] at hw
  | succ k ih =>
    intro i w hw c hc
    simp only [cutN] at hw
    split at hw
    · rcases List.mem_cons.mp hw with z | z
      · rw [z] at hc; exact pc_mem hc
      · exact ih _ w z c hc
    · simp at hw
theorem insW_mem {L : List (List Int × Int)} {p : List Int} {q : List Int × Int} (h : q ∈ insW L p) : q.1 = p ∨ ∃ q' ∈ L, q.1 = q'.1 := by
  have hins : q ∈ L.take (posW L p) ++ (p, (1 : Int)) :: L.drop (posW L p) → q.1 = p ∨ ∃ q' ∈ L, q.1 = q'.1 := by
    intro hq
    simp only [List.mem_append, List.mem_cons] at hq
    rcases hq with z | z | z
    · exact Or.inr ⟨q, List.mem_of_mem_take z, rfl⟩
    · rw [z]; exact Or.inl rfl
    · exact Or.inr ⟨q, List.mem_of_mem_drop z, rfl⟩
  unfold insW at h
  split at h
  · rename_i q0 hq0
    split at h
    · rcases List.mem_or_eq_of_mem_set h with z | z
      · exact Or.inr ⟨q, z, rfl⟩
      · rw [z]; exact Or.inr ⟨q0, List.mem_of_getElem? hq0, rfl⟩
    · exact hins h
  · exact hins h
theorem lexL_mem {ws : List (List Int)} {q : List Int × Int} (h : q ∈ lexL ws) : q.1 ∈ ws := by
  have key : ∀ (ws : List (List Int)) (L : List (List Int × Int)) (q : List Int × Int), q ∈ ws.foldl insW L → q.1 ∈ ws ∨ ∃ q' ∈ L, q.1 = q'.1 := by
    intro ws
    induction ws with
    | nil => intro L q hq; exact Or.inr ⟨q, hq, rfl⟩
    | cons a ws ih =>
      intro L q hq
      rcases ih _ q hq with z | ⟨q', z1, z2⟩
      · exact Or.inl (List.mem_cons_of_mem _ z)
      · rcases insW_mem z1 with w | ⟨q2, w1, w2⟩
        · rw [z2, w]; exact Or.inl List.mem_cons_self
        · exact Or.inr ⟨q2, w1, z2.trans w2⟩
  rcases key ws [] q h with z | ⟨q', z, _⟩
  · exact z
  · simp at z
/-- words are of forms that there are -/
theorem Laid.wF {J : Nat → Int → Int} (h : Laid J) (hst : StOK J) {q : List Int × Int} (hq : q ∈ lxI J) : ∀ c ∈ q.1, c < J 360 4 := by
  intro c hc
  have h1 := lexL_mem hq
  unfold wsI allW at h1
  obtain ⟨row, hr, hw⟩ := List.mem_flatMap.mp h1
  have h8 := hst.1
  exact rowsTo_F hst h.so (m_by J) _ (by omega) row hr c (cutN_mem _ _ _ _ _ _ hw c hc)
def NmOK (I : Nat → Int → Int) : Prop := (0 ≤ I 360 12 ∧ I 360 12 ≤ 4) ∧ ∀ n, 0 ≤ n → n < I 360 12 → (2 ≤ I 367 n ∧ I 367 n ≤ 7) ∧ ∀ k, 0 ≤ k → k < I 367 n → 0 ≤ I 368 (7 * n + k) ∧ I 368 (7 * n + k) < 50
def nmL (I : Nat → Int → Int) (n : Int) : List Int := (List.range (I 367 n).toNat).map (fun k : Nat => I 368 (7 * n + k))
theorem nmL_len (I : Nat → Int → Int) (n : Int) : (nmL I n).length = (I 367 n).toNat := by simp [nmL]
theorem nmL_get (I : Nat → Int → Int) (n : Int) {k : Nat} (h : k < (I 367 n).toNat) : (nmL I n).getD k 0 = I 368 (7 * n + k) := by simp [nmL, h]
/-- a word fits a name, by what kn says is known -/
def fitK (kn : Int → Int) (p nm : List Int) (k : Nat) : Prop := (∀ e, (e = 0 ∨ e = 1) → kn (20 * e + p.getD k 0) = -1 ∨ kn (20 * e + p.getD k 0) = partOf (nm.getD k 0) e) ∧ ∀ i, i < k → (p.getD i 0 = p.getD k 0 ↔ nm.getD i 0 = nm.getD k 0)
def fitW (kn : Int → Int) (p nm : List Int) : Prop := p.length = nm.length ∧ ∀ k, k < nm.length → fitK kn p nm k
theorem c_wordSign {I : Nat → Int → Int} {w k : Int} (hw : 0 ≤ w ∧ w < 240) (hk : 0 ≤ k ∧ k < 7) : mC yX4_wordSign cX4_wordSign 3 (some FieldType.int) 0 [vR (some 360), vI w, vI k] I (some (vI (I 377 (7 * w + k)))) I := by
  refine mC.of (by decide) rfl (Nat.le_of_ble_eq_true rfl) (fun G nx => ?_)
  refine x_ls (ls2 := [some (vR (some 360)), some (vI w), some (vI k)]) rfl ?_
  refine x_aload_n dX4_wordSign_0 rfl ?_
  refine m_getA (kf := 28) 28 (a := 377) (by decide) rfl rfl q2143 rfl rfl dX4_wordSign_1 ?_
  refine x_bipush dX4_wordSign_4 (by decide) ?_
  refine x_iload_n dX4_wordSign_6 rfl ?_
  refine x_imul dX4_wordSign_7 ?_
  refine x_iload_n dX4_wordSign_8 rfl ?_
  refine x_iadd dX4_wordSign_9 ?_
  refine m_iald (n := 1687) rfl rfl (by decide) (by omega) dX4_wordSign_10 ?_
  refine x_iret rfl dX4_wordSign_11 (Nat.le_refl _) (Nat.le_refl _) ?_
  exact ⟨rfl, rfl, rfl⟩
/-- what fitsName asks of the words -/
def WF (I : Nat → Int → Int) (L : List (List Int × Int)) : Prop := WE I L ∧ L.length ≤ 240 ∧ ∀ q ∈ L, ∀ c ∈ q.1, c < I 360 4
theorem c_fitsName {I : Nat → Int → Int} {L : List (List Int × Int)} {w n : Nat} {q : List Int × Int} (h4 : 0 ≤ I 360 4 ∧ I 360 4 ≤ 20) (hW : WF I L) (hki : KnIn I) (hN : NmOK I) (hw : L[w]? = some q) (hn : (n : Int) < I 360 12) : mC yX4_fitsName cX4_fitsName 7 (some FieldType.boolean) 1 [vR (some 360), vI (w : Int), vI (n : Int)] I (some (vI (bi (fitW (I 385) q.1 (nmL I n))))) I := by
  have hwl := (List.getElem?_eq_some_iff.mp hw).1
  have hL := hW.2.1
  obtain ⟨q1, -, q3⟩ := hW.1.at hw
  have hWq := (hW.1.2 w q hw).2
  have hq1 := hWq.1
  have hqF : ∀ k, k < q.1.length → 0 ≤ q.1.getD k 0 ∧ q.1.getD k 0 < I 360 4 := fun k hk => by
    have a := hWq.at hk
    refine ⟨a.1, ?_⟩
    rw [List.getD_eq_getElem?_getD, List.getElem?_eq_getElem hk]
    exact hW.2.2 q (List.mem_of_getElem? hw) _ (List.getElem_mem _)
  have h12 := hN.1
  obtain ⟨hnl, hnk⟩ := hN.2 n (by omega) hn
  have hlen := nmL_len I n
  have hget := fun k => nmL_get I n (k := k)
  refine mC.of (by decide) rfl (Nat.le_of_ble_eq_true rfl) (fun G nx => ?_)
  refine x_ls (ls2 := [some (vR (some 360)), some (vI (w : Int)), some (vI (n : Int)), none, none, none, none]) rfl ?_
  refine x_aload_n dX4_fitsName_0 rfl ?_
  refine m_getA (kf := 27) 27 (a := 376) (by decide) rfl rfl q2142 rfl rfl dX4_fitsName_1 ?_
  refine x_iload_n dX4_fitsName_4 rfl ?_
  refine m_iald (n := 241) rfl rfl (by decide) (by omega) dX4_fitsName_5 ?_
  rw [q1]
  refine x_aload_n dX4_fitsName_6 rfl ?_
  refine m_getA (kf := 13) 13 (a := 367) (by decide) rfl rfl q2128 rfl rfl dX4_fitsName_7 ?_
  refine x_iload_n dX4_fitsName_10 rfl ?_
  refine m_iald (n := 5) rfl rfl (by decide) (by omega) dX4_fitsName_11 ?_
  refine x_icmp_eq (t := 17) dX4_fitsName_12 (by decide) (by omega) (fun c_12 => ?_) (fun c_12 => ?_)
  · skip
    refine x_iconst dX4_fitsName_17 ?_
    refine x_istore_n dX4_fitsName_18 (by decide) ?_
    have hql : q.1.length = (I 367 n).toNat := by omega
    refine x_loc (ls2 := [some (vR (some 360)), some (vI (w : Int)), some (vI (n : Int)), some (vI ((0 : Nat) : Int)), none, none, none]) (by repeat first | exact trivial | refine ⟨Or.inr rfl, ?_⟩ | refine ⟨Or.inl rfl, ?_⟩) ?_
    refine rr_ind (W := fun k : Nat => mm G yX4_fitsName cX4_fitsName 7 (some FieldType.boolean) 1 nx _ _ 19 [some (vR (some 360)), some (vI (w : Int)), some (vI (n : Int)), some (vI (k : Int)), none, none, none] [] I) (fun k => (I 367 n).toNat - k) (fun k => k ≤ (I 367 n).toNat ∧ ∀ j, j < k → fitK (I 385) q.1 (nmL I n) j) ?_ 0 ⟨by omega, fun j hj => by omega⟩
    rintro k ⟨hk, hall⟩ ih
    refine x_iload_n dX4_fitsName_19 rfl ?_
    refine x_aload_n dX4_fitsName_20 rfl ?_
    refine m_getA (kf := 13) 13 (a := 367) (by decide) rfl rfl q2128 rfl rfl dX4_fitsName_21 ?_
    refine x_iload_n dX4_fitsName_24 rfl ?_
    refine m_iald (n := 5) rfl rfl (by decide) (by omega) dX4_fitsName_25 ?_
    refine x_icmp_ge (t := 165) dX4_fitsName_26 (by decide) (by omega) (fun c_26 => ?_) (fun c_26 => ?_)
    · skip
      refine x_iconst dX4_fitsName_165 ?_
      refine x_zret rfl dX4_fitsName_166 (by first | exact Or.inl rfl | exact Or.inr rfl | exact bi_01 _ | omega) (Nat.le_refl _) (Nat.le_refl _) ?_
      exact ⟨rT ⟨by omega, fun j hj => hall j (by omega)⟩, rfl, rfl⟩
    · skip
      have hgk := hget k (by omega)
      have hn50 := hnk k (by omega) (by omega)
      have hqk := hqF k (by omega)
      refine x_aload_n dX4_fitsName_29 rfl ?_
      refine m_getA (kf := 14) 14 (a := 368) (by decide) rfl rfl q2129 rfl rfl dX4_fitsName_30 ?_
      refine x_bipush dX4_fitsName_33 (by decide) ?_
      refine x_iload_n dX4_fitsName_35 rfl ?_
      refine x_imul dX4_fitsName_36 ?_
      refine x_iload_n dX4_fitsName_37 rfl ?_
      refine x_iadd dX4_fitsName_38 ?_
      refine m_iald (n := 35) rfl rfl (by decide) (by omega) dX4_fitsName_39 ?_
      rw [← hgk]
      refine x_istore dX4_fitsName_40 (by decide) ?_
      refine x_iconst dX4_fitsName_42 ?_
      refine x_istore dX4_fitsName_43 (by decide) ?_
      rw [← hgk] at hn50
      have hbad : ¬ fitK (I 385) q.1 (nmL I n) k → ¬ fitW (I 385) q.1 (nmL I n) := fun z y => z (y.2 k (by omega))
      refine rr_ind (W := fun e => mm G yX4_fitsName cX4_fitsName 7 (some FieldType.boolean) 1 nx _ _ 45 [some (vR (some 360)), some (vI (w : Int)), some (vI (n : Int)), some (vI (k : Int)), some (vI ((nmL I n).getD k 0)), some (vI e), none] [] I) (fun e => (2 - e).toNat) (fun e => (0 ≤ e ∧ e ≤ 2) ∧ ∀ e', 0 ≤ e' → e' < e → I 385 (20 * e' + q.1.getD k 0) = -1 ∨ I 385 (20 * e' + q.1.getD k 0) = partOf ((nmL I n).getD k 0) e') ?_ 0 ⟨by omega, fun e' a b => by omega⟩
      rintro e ⟨he, hel⟩ ih2
      have hke : e < 2 → -1 ≤ I 385 (20 * e + q.1.getD k 0) ∧ I 385 (20 * e + q.1.getD k 0) < 10 := fun z => hki e _ (by omega) hqk.1 hqk.2
      have hpo := partOf_in (k := e) hn50
      have hgo : e < 2 → (I 385 (20 * e + q.1.getD k 0) = -1 ∨ I 385 (20 * e + q.1.getD k 0) = partOf ((nmL I n).getD k 0) e) → mm G yX4_fitsName cX4_fitsName 7 (some FieldType.boolean) 1 nx _ _ 45 [some (vR (some 360)), some (vI (w : Int)), some (vI (n : Int)), some (vI (k : Int)), some (vI ((nmL I n).getD k 0)), some (vI (e + 1)), none] [] I := fun a z => ih2 (e + 1) ⟨by omega, fun e' a b => by
        by_cases c : e' = e
        · rw [c]; exact z
        · exact hel e' a (by omega)⟩ (by omega)
      refine x_iload dX4_fitsName_45 rfl ?_
      refine x_iconst dX4_fitsName_47 ?_
      refine x_icmp_ge (t := 96) dX4_fitsName_48 (by decide) (by omega) (fun c_48 => ?_) (fun c_48 => ?_)
      · skip
        refine x_iconst dX4_fitsName_96 ?_
        refine x_istore dX4_fitsName_97 (by decide) ?_
        have hkk : ∀ e', (e' = 0 ∨ e' = 1) → I 385 (20 * e' + q.1.getD k 0) = -1 ∨ I 385 (20 * e' + q.1.getD k 0) = partOf ((nmL I n).getD k 0) e' := fun e' z => hel e' (by omega) (by omega)
        refine x_loc (ls2 := [some (vR (some 360)), some (vI (w : Int)), some (vI (n : Int)), some (vI (k : Int)), some (vI ((nmL I n).getD k 0)), some (vI ((0 : Nat) : Int)), none]) (by repeat first | exact trivial | refine ⟨Or.inr rfl, ?_⟩ | refine ⟨Or.inl rfl, ?_⟩) ?_
        refine rr_ind (W := fun i : Nat => mm G yX4_fitsName cX4_fitsName 7 (some FieldType.boolean) 1 nx _ _ 99 [some (vR (some 360)), some (vI (w : Int)), some (vI (n : Int)), some (vI (k : Int)), some (vI ((nmL I n).getD k 0)), some (vI (i : Int)), none] [] I) (fun i => k - i) (fun i => i ≤ k ∧ ∀ j, j < i → (q.1.getD j 0 = q.1.getD k 0 ↔ (nmL I n).getD j 0 = (nmL I n).getD k 0)) ?_ 0 ⟨by omega, fun j hj => by omega⟩
        rintro i ⟨hi, hij⟩ ih3
        have hqi : i < k → 0 ≤ q.1.getD i 0 ∧ q.1.getD i 0 < I 360 4 := fun z => hqF i (by omega)
        have hgi := fun z => hget i z
        have hni : i < k → 0 ≤ I 368 (7 * (n : Int) + i) ∧ I 368 (7 * (n : Int) + i) < 50 := fun z => hnk i (by omega) (by omega)
        have hgo : i < k → (q.1.getD i 0 = q.1.getD k 0 ↔ (nmL I n).getD i 0 = (nmL I n).getD k 0) → mm G yX4_fitsName cX4_fitsName 7 (some FieldType.boolean) 1 nx _ _ 99 [some (vR (some 360)), some (vI (w : Int)), some (vI (n : Int)), some (vI (k : Int)), some (vI ((nmL I n).getD k 0)), some (vI ((i + 1 : Nat) : Int)), none] [] I := fun a z => ih3 (i + 1) ⟨by omega, fun j hj => by
          by_cases c : j = i
          · rw [c]; exact z
          · exact hij j (by omega)⟩ (by omega)
        refine x_iload dX4_fitsName_99 rfl ?_
        refine x_iload_n dX4_fitsName_101 rfl ?_
        refine x_icmp_ge (t := 159) dX4_fitsName_102 (by decide) (by omega) (fun c_102 => ?_) (fun c_102 => ?_)
        · skip
          have hik : i = k := by omega
          have hgo := ih (k + 1) ⟨by omega, fun j hj => by
            by_cases c : j = k
            · rw [c]; exact ⟨hkk, fun j hj => hij j (by omega)⟩
            · exact hall j (by omega)⟩ (by omega)
          refine x_iinc dX4_fitsName_159 rfl (by decide) ?_
          refine x_goto (t := 19) dX4_fitsName_162 (by decide) ?_
          exact x_loc (by rw [show ((k + 1 : Nat) : Int) = (k : Int) + 1 by omega]; exact (by repeat first | exact trivial | refine ⟨Or.inr rfl, ?_⟩ | refine ⟨Or.inl rfl, ?_⟩)) hgo
        · skip
          have hqi := hqi (by omega)
          have hgi := hgi (by omega)
          have hni := hni (by omega)
          refine x_aload_n dX4_fitsName_105 rfl ?_
          refine x_iload_n dX4_fitsName_106 rfl ?_
          refine x_iload dX4_fitsName_107 rfl ?_
          refine m_cv2 (c_wordSign (by omega) (by omega)) fX4_wordSign q2654 (by decide) (Nat.le_of_ble_eq_true rfl) dX4_fitsName_109 ?_
          rw [q3 i (by omega)]
          refine x_aload_n dX4_fitsName_112 rfl ?_
          refine x_iload_n dX4_fitsName_113 rfl ?_
          refine x_iload_n dX4_fitsName_114 rfl ?_
          refine m_cv2 (c_wordSign (by omega) (by omega)) fX4_wordSign q2654 (by decide) (Nat.le_of_ble_eq_true rfl) dX4_fitsName_115 ?_
          rw [q3 k (by omega)]
          refine x_icmp_ne (t := 125) dX4_fitsName_118 (by decide) (by omega) (fun c_118 => ?_) (fun c_118 => ?_)
          · skip
            refine x_iconst dX4_fitsName_125 ?_
            refine x_top (bi (q.1.getD i 0 = q.1.getD k 0)) (by first | exact (bi_t c_118).symm | exact (bi_f c_118).symm) ?_
            have hb1 := bi_01 (q.1.getD i 0 = q.1.getD k 0)
            refine x_aload_n dX4_fitsName_126 rfl ?_
            refine m_getA (kf := 14) 14 (a := 368) (by decide) rfl rfl q2129 rfl rfl dX4_fitsName_127 ?_
            refine x_bipush dX4_fitsName_130 (by decide) ?_
            refine x_iload_n dX4_fitsName_132 rfl ?_
            refine x_imul dX4_fitsName_133 ?_
            refine x_iload dX4_fitsName_134 rfl ?_
            refine x_iadd dX4_fitsName_136 ?_
            refine m_iald (n := 35) rfl rfl (by decide) (by omega) dX4_fitsName_137 ?_
            rw [← hgi]
            refine x_iload dX4_fitsName_138 rfl ?_
            refine x_icmp_ne (t := 147) dX4_fitsName_140 (by decide) (by omega) (fun c_140 => ?_) (fun c_140 => ?_)
            · skip
              refine x_iconst dX4_fitsName_147 ?_
              refine x_top (bi ((nmL I n).getD i 0 = (nmL I n).getD k 0)) (by first | exact (bi_t c_140).symm | exact (bi_f c_140).symm) ?_
              have hb2 := bi_01 ((nmL I n).getD i 0 = (nmL I n).getD k 0)
              refine x_icmp_eq (t := 153) dX4_fitsName_148 (by decide) (by omega) (fun c_148 => ?_) (fun c_148 => ?_)
              · skip
                have hgo := hgo (by omega) (by
                  constructor
                  · intro z
                    rw [bi_t z] at c_148
                    exact Classical.byContradiction fun y => by rw [bi_f y] at c_148; omega
                  · intro z
                    rw [bi_t z] at c_148
                    exact Classical.byContradiction fun y => by rw [bi_f y] at c_148; omega)
                refine x_iinc dX4_fitsName_153 rfl (by decide) ?_
                refine x_goto (t := 99) dX4_fitsName_156 (by decide) ?_
                exact x_loc (by rw [show ((i + 1 : Nat) : Int) = (i : Int) + 1 by omega]; exact (by repeat first | exact trivial | refine ⟨Or.inr rfl, ?_⟩ | refine ⟨Or.inl rfl, ?_⟩)) hgo
              · skip
                refine x_iconst dX4_fitsName_151 ?_
                refine x_zret rfl dX4_fitsName_152 (by first | exact Or.inl rfl | exact Or.inr rfl | exact bi_01 _ | omega) (Nat.le_refl _) (Nat.le_refl _) ?_
                exact ⟨rF (hbad (fun z => c_148 (bi_iff (z.2 i (by omega))))), rfl, rfl⟩
            · skip
              refine x_iconst dX4_fitsName_143 ?_
              refine x_goto (t := 148) dX4_fitsName_144 (by decide) ?_
              refine x_top (bi ((nmL I n).getD i 0 = (nmL I n).getD k 0)) (by first | exact (bi_t c_140).symm | exact (bi_f c_140).symm) ?_
              have hb2 := bi_01 ((nmL I n).getD i 0 = (nmL I n).getD k 0)
              refine x_icmp_eq (t := 153) dX4_fitsName_148 (by decide) (by omega) (fun c_148 => ?_) (fun c_148 => ?_)
              · skip
                have hgo := hgo (by omega) (by
                  constructor
                  · intro z
                    rw [bi_t z] at c_148
                    exact Classical.byContradiction fun y => by rw [bi_f y] at c_148; omega
                  · intro z
                    rw [bi_t z] at c_148
                    exact Classical.byContradiction fun y => by rw [bi_f y] at c_148; omega)
                refine x_iinc dX4_fitsName_153 rfl (by decide) ?_
                refine x_goto (t := 99) dX4_fitsName_156 (by decide) ?_
                exact x_loc (by rw [show ((i + 1 : Nat) : Int) = (i : Int) + 1 by omega]; exact (by repeat first | exact trivial | refine ⟨Or.inr rfl, ?_⟩ | refine ⟨Or.inl rfl, ?_⟩)) hgo
              · skip
                refine x_iconst dX4_fitsName_151 ?_
                refine x_zret rfl dX4_fitsName_152 (by first | exact Or.inl rfl | exact Or.inr rfl | exact bi_01 _ | omega) (Nat.le_refl _) (Nat.le_refl _) ?_
                exact ⟨rF (hbad (fun z => c_148 (bi_iff (z.2 i (by omega))))), rfl, rfl⟩
          · skip
            refine x_iconst dX4_fitsName_121 ?_
            refine x_goto (t := 126) dX4_fitsName_122 (by decide) ?_
            refine x_top (bi (q.1.getD i 0 = q.1.getD k 0)) (by first | exact (bi_t c_118).symm | exact (bi_f c_118).symm) ?_
            have hb1 := bi_01 (q.1.getD i 0 = q.1.getD k 0)
            refine x_aload_n dX4_fitsName_126 rfl ?_
            refine m_getA (kf := 14) 14 (a := 368) (by decide) rfl rfl q2129 rfl rfl dX4_fitsName_127 ?_
            refine x_bipush dX4_fitsName_130 (by decide) ?_
            refine x_iload_n dX4_fitsName_132 rfl ?_
            refine x_imul dX4_fitsName_133 ?_
            refine x_iload dX4_fitsName_134 rfl ?_
            refine x_iadd dX4_fitsName_136 ?_
            refine m_iald (n := 35) rfl rfl (by decide) (by omega) dX4_fitsName_137 ?_
            rw [← hgi]
            refine x_iload dX4_fitsName_138 rfl ?_
            refine x_icmp_ne (t := 147) dX4_fitsName_140 (by decide) (by omega) (fun c_140 => ?_) (fun c_140 => ?_)
            · skip
              refine x_iconst dX4_fitsName_147 ?_
              refine x_top (bi ((nmL I n).getD i 0 = (nmL I n).getD k 0)) (by first | exact (bi_t c_140).symm | exact (bi_f c_140).symm) ?_
              have hb2 := bi_01 ((nmL I n).getD i 0 = (nmL I n).getD k 0)
              refine x_icmp_eq (t := 153) dX4_fitsName_148 (by decide) (by omega) (fun c_148 => ?_) (fun c_148 => ?_)
              · skip
                have hgo := hgo (by omega) (by
                  constructor
                  · intro z
                    rw [bi_t z] at c_148
                    exact Classical.byContradiction fun y => by rw [bi_f y] at c_148; omega
                  · intro z
                    rw [bi_t z] at c_148
                    exact Classical.byContradiction fun y => by rw [bi_f y] at c_148; omega)
                refine x_iinc dX4_fitsName_153 rfl (by decide) ?_
                refine x_goto (t := 99) dX4_fitsName_156 (by decide) ?_
                exact x_loc (by rw [show ((i + 1 : Nat) : Int) = (i : Int) + 1 by omega]; exact (by repeat first | exact trivial | refine ⟨Or.inr rfl, ?_⟩ | refine ⟨Or.inl rfl, ?_⟩)) hgo
              · skip
                refine x_iconst dX4_fitsName_151 ?_
                refine x_zret rfl dX4_fitsName_152 (by first | exact Or.inl rfl | exact Or.inr rfl | exact bi_01 _ | omega) (Nat.le_refl _) (Nat.le_refl _) ?_
                exact ⟨rF (hbad (fun z => c_148 (bi_iff (z.2 i (by omega))))), rfl, rfl⟩
            · skip
              refine x_iconst dX4_fitsName_143 ?_
              refine x_goto (t := 148) dX4_fitsName_144 (by decide) ?_
              refine x_top (bi ((nmL I n).getD i 0 = (nmL I n).getD k 0)) (by first | exact (bi_t c_140).symm | exact (bi_f c_140).symm) ?_
              have hb2 := bi_01 ((nmL I n).getD i 0 = (nmL I n).getD k 0)
              refine x_icmp_eq (t := 153) dX4_fitsName_148 (by decide) (by omega) (fun c_148 => ?_) (fun c_148 => ?_)
              · skip
                have hgo := hgo (by omega) (by
                  constructor
                  · intro z
                    rw [bi_t z] at c_148
                    exact Classical.byContradiction fun y => by rw [bi_f y] at c_148; omega
                  · intro z
                    rw [bi_t z] at c_148
                    exact Classical.byContradiction fun y => by rw [bi_f y] at c_148; omega)
                refine x_iinc dX4_fitsName_153 rfl (by decide) ?_
                refine x_goto (t := 99) dX4_fitsName_156 (by decide) ?_
                exact x_loc (by rw [show ((i + 1 : Nat) : Int) = (i : Int) + 1 by omega]; exact (by repeat first | exact trivial | refine ⟨Or.inr rfl, ?_⟩ | refine ⟨Or.inl rfl, ?_⟩)) hgo
              · skip
                refine x_iconst dX4_fitsName_151 ?_
                refine x_zret rfl dX4_fitsName_152 (by first | exact Or.inl rfl | exact Or.inr rfl | exact bi_01 _ | omega) (Nat.le_refl _) (Nat.le_refl _) ?_
                exact ⟨rF (hbad (fun z => c_148 (bi_iff (z.2 i (by omega))))), rfl, rfl⟩
      · skip
        have hke := hke (by omega)
        refine x_aload_n dX4_fitsName_51 rfl ?_
        refine m_getA (kf := 37) 37 (a := 385) (by decide) rfl rfl q2152 rfl rfl dX4_fitsName_52 ?_
        refine x_bipush dX4_fitsName_55 (by decide) ?_
        refine x_iload dX4_fitsName_57 rfl ?_
        refine x_imul dX4_fitsName_59 ?_
        refine x_aload_n dX4_fitsName_60 rfl ?_
        refine x_iload_n dX4_fitsName_61 rfl ?_
        refine x_iload_n dX4_fitsName_62 rfl ?_
        refine m_cv2 (c_wordSign (by omega) (by omega)) fX4_wordSign q2654 (by decide) (Nat.le_of_ble_eq_true rfl) dX4_fitsName_63 ?_
        rw [q3 k (by omega)]
        refine x_iadd dX4_fitsName_66 ?_
        refine m_iald (n := 40) rfl rfl (by decide) (by omega) dX4_fitsName_67 ?_
        refine x_istore dX4_fitsName_68 (by decide) ?_
        refine x_iload dX4_fitsName_70 rfl ?_
        refine x_iconst dX4_fitsName_72 ?_
        refine x_icmp_eq (t := 90) dX4_fitsName_73 (by decide) (by omega) (fun c_73 => ?_) (fun c_73 => ?_)
        · skip
          have hgo := hgo (by omega) (Or.inl c_73)
          refine x_iinc dX4_fitsName_90 rfl (by decide) ?_
          refine x_goto (t := 45) dX4_fitsName_93 (by decide) ?_
          exact x_loc (by repeat first | exact trivial | refine ⟨Or.inr rfl, ?_⟩ | refine ⟨Or.inl rfl, ?_⟩) hgo
        · skip
          refine x_iload dX4_fitsName_76 rfl ?_
          refine x_iload dX4_fitsName_78 rfl ?_
          refine x_iload dX4_fitsName_80 rfl ?_
          refine m_cs2 (c_partOf (by omega) (by omega)) fX4_partOf q2502 (by decide) (Nat.le_of_ble_eq_true rfl) dX4_fitsName_82 ?_
          refine x_icmp_eq (t := 90) dX4_fitsName_85 (by decide) (by omega) (fun c_85 => ?_) (fun c_85 => ?_)
          · skip
            have hgo := hgo (by omega) (Or.inr c_85)
            refine x_iinc dX4_fitsName_90 rfl (by decide) ?_
            refine x_goto (t := 45) dX4_fitsName_93 (by decide) ?_
            exact x_loc (by repeat first | exact trivial | refine ⟨Or.inr rfl, ?_⟩ | refine ⟨Or.inl rfl, ?_⟩) hgo
          · skip
            refine x_iconst dX4_fitsName_88 ?_
            refine x_zret rfl dX4_fitsName_89 (by first | exact Or.inl rfl | exact Or.inr rfl | exact bi_01 _ | omega) (Nat.le_refl _) (Nat.le_refl _) ?_
            exact ⟨rF (hbad (fun z => (z.1 e (by omega)).elim c_73 c_85)), rfl, rfl⟩
  · skip
    refine x_iconst dX4_fitsName_15 ?_
    refine x_zret rfl dX4_fitsName_16 (by first | exact Or.inl rfl | exact Or.inr rfl | exact bi_01 _ | omega) (Nat.le_refl _) (Nat.le_refl _) ?_
    exact ⟨rF (fun z => by have := z.1; omega), rfl, rfl⟩
