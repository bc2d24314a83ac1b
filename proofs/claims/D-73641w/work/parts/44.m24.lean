set_option maxRecDepth 100000
/-! THE MODEL's methods, 24: stone() -/
theorem pDots_pre (T : Int → Int) : ∀ (k : Nat) (p : Int) (l : List Int), l <+: (pDots T k p l).2.2 := by
  intro k
  induction k with
  | zero => intro p l; exact List.prefix_refl _
  | succ k ih =>
    intro p l
    simp only [pDots]
    split
    · split
      · exact List.prefix_refl _
      · exact (List.prefix_append l _).trans (ih _ _)
    · exact List.prefix_refl _
theorem pLets_pre (T : Int → Int) (F : Int) : ∀ (k : Nat) (p : Int) (l : List Int), l <+: (pLets T F k p l).2.2 := by
  intro k
  induction k with
  | zero => intro p l; exact List.prefix_refl _
  | succ k ih =>
    intro p l
    simp only [pLets]
    split
    · split
      · exact List.prefix_refl _
      · split
        · exact List.prefix_refl _
        · exact (List.prefix_append l _).trans (ih _ _)
    · exact List.prefix_refl _
theorem pDots_len (T : Int → Int) : ∀ (k : Nat) (p : Int) (l : List Int), l.length ≤ 10 → (pDots T k p l).2.2.length ≤ 10 := by
  intro k
  induction k with
  | zero => intro p l h; exact h
  | succ k ih =>
    intro p l h
    simp only [pDots]
    split
    · split
      · exact h
      · exact ih _ _ (by simp; omega)
    · exact h
/-- a row has a letter -/
theorem pRow_let {T : Int → Int} {F many p : Int} (h : (pRow T F many p).1 = -1) (hp : 0 ≤ p) (hpos : 0 ≤ (pDots T 11 p []).2.1) : ∃ i : Nat, i < (pRow T F many p).2.2.length ∧ 0 ≤ (pRow T F many p).2.2.getD i 0 := by
  unfold pRow at h ⊢
  split at h
  · rename_i a1
    rw [if_pos a1]
    split at h
    · dsimp only at h
      exfalso
      split at h <;> omega
    · rename_i a2
      rw [if_neg a2]
      generalize ha : pDots T 11 p [] = a at *
      have hal : a.2.2.length ≤ 10 := by rw [← ha]; exact pDots_len T 11 p [] (by simp)
      unfold pRow2 at h ⊢
      split at h
      · rename_i b1
        rw [if_pos b1]
        split at h
        · rename_i b2
          rw [if_pos b2]
          have hst := pLets_st T F a.2.1 hal
          rw [if_pos b2] at hst
          have hpre : (pLets T F (11 - a.2.2.length) a.2.1 a.2.2).1 = -1 → (a.2.2 ++ [T a.2.1 - 97]) <+: (pLets T F (11 - a.2.2.length) a.2.1 a.2.2).2.2 := by
            intro z
            split at hst
            · rw [hst] at z; dsimp only at z; omega
            · split at hst
              · rw [hst] at z; dsimp only at z; omega
              · rw [hst]; exact pLets_pre T F _ _ _
          have hfin : ∀ r : List Int, (a.2.2 ++ [T a.2.1 - 97]) <+: r → ∃ i : Nat, i < r.length ∧ 0 ≤ r.getD i 0 := by
            rintro r ⟨t, rfl⟩
            refine ⟨a.2.2.length, by simp, ?_⟩
            have : (a.2.2 ++ [T a.2.1 - 97] ++ t).getD a.2.2.length 0 = T a.2.1 - 97 := by simp
            rw [this]
            have := b2.1
            omega
          split at h
          · rename_i b3
            rw [if_pos b3]
            exact hfin _ ((hpre b3).trans (pDots_pre T _ _ _))
          · rename_i b3
            exact absurd h b3
        · dsimp only at h
          omega
      · rename_i b1
        exact absurd h b1
  · dsimp only at h
    omega
def pStone (T : Int → Int) (F : Int) : Nat → List (List Int) → Int → Int × List (List Int)
  | 0, rs, _ => (-1, rs)
  | k + 1, rs, p => if (pRow T F rs.length p).1 = -1 then (if T (pRow T F rs.length p).2.1 = 47 then pStone T F k (rs ++ [(pRow T F rs.length p).2.2]) ((pRow T F rs.length p).2.1 + 1) else if T (pRow T F rs.length p).2.1 = -1 then (-1, rs ++ [(pRow T F rs.length p).2.2]) else (8 * (pRow T F rs.length p).2.1 + 1, rs)) else ((pRow T F rs.length p).1, rs)
def rStone (T : Int → Int) (F : Int) : Int × List (List Int) := pStone T F 5 [] 0
/-- the rows rs stand as stone s -/
def encS (J : Nat → Int → Int) (F s : Int) (rs : List (List Int)) : Prop := J 364 s = rs.length ∧ ∀ i : Nat, i < rs.length → J 365 (4 * s + i) = (rs.getD i []).length ∧ (1 ≤ (rs.getD i []).length ∧ (rs.getD i []).length ≤ 10) ∧ (∀ k : Nat, k < (rs.getD i []).length → J 366 (10 * (4 * s + i) + k) = (rs.getD i []).getD k 0 ∧ -1 ≤ (rs.getD i []).getD k 0 ∧ (rs.getD i []).getD k 0 < F) ∧ ∃ k : Nat, k < (rs.getD i []).length ∧ 0 ≤ (rs.getD i []).getD k 0
/-- what is below stone s stays -/
def Low (I J : Nat → Int → Int) (s : Int) : Prop := (∀ t, t < s → J 364 t = I 364 t) ∧ (∀ v, v < 4 * s → J 365 v = I 365 v) ∧ ∀ j, j < 40 * s → J 366 j = I 366 j
def SnPost (I : Nat → Int → Int) (z : Int) (J : Nat → Int → Int) : Prop := (I 360 8 = 6 ∧ z = -1 ∧ J = I) ∨ (I 360 8 < 6 ∧ J 360 1 = 0 ∧ Low I J (I 360 8) ∧ (((rStone (mSg I) (I 360 4)).1 ≠ -1 ∧ z = -2 - (rStone (mSg I) (I 360 4)).1 ∧ eqx I J [364, 365, 366] [1, 2, 3]) ∨
  ((rStone (mSg I) (I 360 4)).1 = -1 ∧ z = I 360 8 ∧ J 360 8 = I 360 8 + 1 ∧ J 360 17 = 0 ∧ J 360 45 = 0 ∧ (1 ≤ (rStone (mSg I) (I 360 4)).2.length ∧ (rStone (mSg I) (I 360 4)).2.length ≤ 4) ∧ encS J (I 360 4) (I 360 8) (rStone (mSg I) (I 360 4)).2 ∧ eqx I J [364, 365, 366] [1, 2, 3, 8, 17, 45])))
theorem c_stone_97 {I K : Nat → Int → Int} {G : rr_G} {nx : Nat} {p f : Int} {b : Option rr_V} (h8 : 0 ≤ I 360 8 ∧ I 360 8 < 6) (he : eqx I K [364, 365, 366] []) (hlo : Low I K (I 360 8)) (hf : -1 ≤ f ∧ f < 100000) (hr : (rStone (mSg I) (I 360 4)).1 = f)
    (hok : f = -1 → (1 ≤ (rStone (mSg I) (I 360 4)).2.length ∧ (rStone (mSg I) (I 360 4)).2.length ≤ 4) ∧ encS K (I 360 4) (I 360 8) (rStone (mSg I) (I 360 4)).2) : mq G yX4_stone cX4_stone 2 (some FieldType.int) 5 nx (SnPost I) 97 [some (vR (some 360)), b] [] (mP K p f) := by
  have e8 : K 360 8 = I 360 8 := he.2 8 (by decide)
  have e3 : rr_u2 (mP K p f) 360 1 0 360 3 = f := by rw [rr_u2_ne _ _ (by omega)]; exact mP_f K p f
  have hR2 := c_isRight (I := rr_u2 (mP K p f) 360 1 0) (by rw [e3]; omega)
  rw [e3] at hR2
  have em : eqx K (mP K p f) [] [2, 3] := ⟨fun x h1 h2 => by funext j; exact mP_a K p f h1 j, fun j hj => mP_o K p f (by simp at hj; omega) (by simp at hj; omega)⟩
  have e1 : eqx I (rr_u2 (mP K p f) 360 1 0) [364, 365, 366] [1, 2, 3] := (he.mono (by decide) (by decide)).tr ((em.mono (by decide) (by decide)).tr ((eqx_u2 _ 1 0).mono (by decide) (by decide)))
  have ha : ∀ x, x ≠ 360 → rr_u2 (mP K p f) 360 1 0 x = K x := fun x hx => by funext j; rw [rr_u2_ne _ _ (fun z => hx z.1), mP_a K p f hx]
  have e11 : rr_u2 (mP K p f) 360 1 0 360 1 = 0 := rr_u2_same _ _ _ _
  have e81 : rr_u2 (mP K p f) 360 1 0 360 8 = I 360 8 := by rw [rr_u2_ne _ _ (by omega), mP_o K p f (by decide) (by decide)]; exact e8
  refine x_aload_n dX4_stone_97 rfl ?_
  refine x_iconst dX4_stone_98 ?_
  refine m_putI (kf := 1) 1 (by decide) rfl rfl q2116 rfl rfl (rr_nar_i _) dX4_stone_99 ?_
  generalize rr_u2 (mP K p f) 360 1 0 = V at *
  refine x_aload_n dX4_stone_102 rfl ?_
  refine m_cv0 (hR2) fX4_isRight q2283 (by decide) (Nat.le_of_ble_eq_true rfl) dX4_stone_103 ?_
  refine x_if_ne_b (t := 117) dX4_stone_106 (by decide) (fun c_106 => ?_) (fun c_106 => ?_)
  · skip
    refine x_aload_n dX4_stone_117 rfl ?_
    refine x_dup dX4_stone_118 rfl ?_
    refine m_getI (kf := 8) 8 (by decide) rfl rfl q2123 rfl dX4_stone_119 ?_
    rw [e81]
    refine x_iconst dX4_stone_122 ?_
    refine x_iadd dX4_stone_123 ?_
    refine m_putI (kf := 8) 8 (by decide) rfl rfl q2123 rfl rfl (rr_nar_i _) dX4_stone_124 ?_
    generalize hV2 : rr_u2 V 360 8 (I 360 8 + 1) = V2
    refine x_aload_n dX4_stone_127 rfl ?_
    refine x_iconst dX4_stone_128 ?_
    refine m_putI (kf := 17) 17 (by decide) rfl rfl q2132 rfl rfl (rr_nar_i _) dX4_stone_129 ?_
    generalize hV3 : rr_u2 V2 360 17 0 = V3
    refine x_aload_n dX4_stone_132 rfl ?_
    refine x_iconst dX4_stone_133 ?_
    refine m_putI (kf := 45) 45 (by decide) rfl rfl q2160 rfl rfl (rr_nar_z (by first | exact Or.inl rfl | exact Or.inr rfl | omega)) dX4_stone_134 ?_
    generalize hV4 : rr_u2 V3 360 45 0 = V4
    have e84 : V4 360 8 = I 360 8 + 1 := by rw [← hV4, ← hV3, ← hV2, rr_u2_ne _ _ (by omega), rr_u2_ne _ _ (by omega), rr_u2_same]
    refine x_aload_n dX4_stone_137 rfl ?_
    refine m_getI (kf := 8) 8 (by decide) rfl rfl q2123 rfl dX4_stone_138 ?_
    rw [e84]
    refine x_iconst dX4_stone_141 ?_
    refine x_isub dX4_stone_142 ?_
    refine x_iret rfl dX4_stone_143 (Nat.le_refl _) (Nat.le_refl _) ?_
    have hfin := hok (by omega)
    have ha4 : ∀ x, x ≠ 360 → V4 x = K x := fun x hx => by
      rw [← ha x hx]
      funext j
      rw [← hV4, ← hV3, ← hV2, rr_u2_ne _ _ (fun z => hx z.1), rr_u2_ne _ _ (fun z => hx z.1), rr_u2_ne _ _ (fun z => hx z.1)]
    refine ⟨_, rfl, rfl, _, rfl, Or.inr ⟨h8.2, ?_, ?_, Or.inr ⟨by omega, by omega, e84, ?_, ?_, hfin.1, ?_, ?_⟩⟩⟩
    · rw [← hV4, ← hV3, ← hV2, rr_u2_ne _ _ (by omega), rr_u2_ne _ _ (by omega), rr_u2_ne _ _ (by omega)]; exact e11
    · unfold Low
      rw [ha4 364 (by decide), ha4 365 (by decide), ha4 366 (by decide)]
      exact hlo
    · rw [← hV4, ← hV3, rr_u2_ne _ _ (by omega), rr_u2_same]
    · rw [← hV4, rr_u2_same]
    · unfold encS
      rw [ha4 364 (by decide), ha4 365 (by decide), ha4 366 (by decide)]
      exact hfin.2
    · rw [← hV4, ← hV3, ← hV2]
      exact (e1.mono (by decide) (by decide)).tr (((eqx_u2 _ 8 _).mono (by decide) (by decide)).tr (((eqx_u2 _ 17 _).mono (by decide) (by decide)).tr ((eqx_u2 _ 45 _).mono (by decide) (by decide))))
  · skip
    refine x_bipush dX4_stone_109 (by decide) ?_
    refine x_aload_n dX4_stone_111 rfl ?_
    refine m_getI (kf := 3) 3 (by decide) rfl rfl q2118 rfl dX4_stone_112 ?_
    rw [e3]
    refine x_isub dX4_stone_115 ?_
    refine x_iret rfl dX4_stone_116 (Nat.le_refl _) (Nat.le_refl _) ?_
    refine ⟨_, rfl, rfl, _, rfl, Or.inr ⟨h8.2, e11, ?_, Or.inl ⟨by omega, by omega, e1⟩⟩⟩
    unfold Low
    rw [ha 364 (by decide), ha 365 (by decide), ha 366 (by decide)]
    exact hlo
theorem pDots_pos (T : Int → Int) : ∀ (k : Nat) (p : Int) (l : List Int), 0 ≤ p → 0 ≤ (pDots T k p l).2.1 := by
  intro k
  induction k with
  | zero => intro p l h; exact h
  | succ k ih =>
    intro p l h
    simp only [pDots]
    split
    · split
      · exact h
      · exact ih _ _ (by omega)
    · exact h
theorem c_stone_73 {I K : Nat → Int → Int} {G : rr_G} {nx : Nat} {p f : Int} {b : Option rr_V} (h1 : 0 ≤ I 360 1 ∧ I 360 1 ≤ 300) (hp : 0 ≤ p ∧ p ≤ 300) (h8 : 0 ≤ I 360 8 ∧ I 360 8 < 6) (he : eqx I K [364, 365, 366] []) (hlo : Low I K (I 360 8)) (hf : -1 ≤ f ∧ f < 100000) (hr : f ≠ -1 → (rStone (mSg I) (I 360 4)).1 = f)
    (hok : f = -1 → mSg I p = -1 → (rStone (mSg I) (I 360 4)).1 = -1 ∧ (1 ≤ (rStone (mSg I) (I 360 4)).2.length ∧ (rStone (mSg I) (I 360 4)).2.length ≤ 4) ∧ encS K (I 360 4) (I 360 8) (rStone (mSg I) (I 360 4)).2) (hno : f = -1 → mSg I p ≠ -1 → (rStone (mSg I) (I 360 4)).1 = 8 * p + 1) : mq G yX4_stone cX4_stone 2 (some FieldType.int) 5 nx (SnPost I) 73 [some (vR (some 360)), b] [] (mP K p f) := by
  have hTK : mSg K = mSg I := mSg_eqx he (by decide) (by decide)
  have h1K : 0 ≤ K 360 1 ∧ K 360 1 ≤ 300 := by rw [he.2 1 (by decide)]; exact h1
  have hs := mSg_in I p
  have hSg : mC yX4_sign cX4_sign 1 (some FieldType.int) 0 [vR (some 360)] (mP K p f) (some (vI (mSg I p))) (mP K p f) := by have := c_signP (I := K) (p := p) (f := f) (by omega) h1K; rw [hTK] at this; exact this
  refine x_aload_n dX4_stone_73 rfl ?_
  refine m_cv0 (c_isRightP (by omega)) fX4_isRight q2283 (by decide) (Nat.le_of_ble_eq_true rfl) dX4_stone_74 ?_
  refine x_if_eq_b (t := 97) dX4_stone_77 (by decide) (fun c_77 => ?_) (fun c_77 => ?_)
  · skip
    exact c_stone_97 h8 he hlo hf (hr (by omega)) (fun z => by omega)
  · skip
    refine x_aload_n dX4_stone_80 rfl ?_
    refine m_cv0 (hSg) fX4_sign q2279 (by decide) (Nat.le_of_ble_eq_true rfl) dX4_stone_81 ?_
    refine x_iconst dX4_stone_84 ?_
    refine x_icmp_eq (t := 97) dX4_stone_85 (by decide) (by omega) (fun c_85 => ?_) (fun c_85 => ?_)
    · skip
      exact c_stone_97 h8 he hlo hf (by rw [(hok (by omega) (by omega)).1]; omega) (fun z => (hok z (by omega)).2)
    · skip
      refine x_aload_n dX4_stone_88 rfl ?_
      refine x_iconst dX4_stone_89 ?_
      refine x_aload_n dX4_stone_90 rfl ?_
      refine m_getI (kf := 2) 2 (by decide) rfl rfl q2117 rfl dX4_stone_91 ?_
      rw [mP_p]
      refine m_cw2 (c_failsP (by omega)) fX4_fails q2302 (by decide) (Nat.le_of_ble_eq_true rfl) dX4_stone_94 ?_
      have hfl : flt f 1 p = 8 * p + 1 := if_pos (by omega)
      rw [hfl]
      exact c_stone_97 h8 he hlo (by omega) (hno (by omega) c_85) (fun z => by omega)
theorem encS.snoc {K J : Nat → Int → Int} {F s : Int} {rs : List (List Int)} {l : List Int} (h : encS K F s rs) (h364 : J 364 s = (rs.length : Int) + 1) (h365 : ∀ v, v < 4 * s + rs.length → J 365 v = K 365 v) (h366 : ∀ j, j < 10 * (4 * s + rs.length) → J 366 j = K 366 j)
    (hl : J 365 (4 * s + rs.length) = l.length) (hl2 : 1 ≤ l.length ∧ l.length ≤ 10) (hk : ∀ k : Nat, k < l.length → J 366 (10 * (4 * s + rs.length) + k) = l.getD k 0 ∧ -1 ≤ l.getD k 0 ∧ l.getD k 0 < F) (hx : ∃ k : Nat, k < l.length ∧ 0 ≤ l.getD k 0) : encS J F s (rs ++ [l]) := by
  refine ⟨by rw [h364]; simp, fun i hi => ?_⟩
  simp only [List.length_append, List.length_singleton] at hi
  by_cases e : i < rs.length
  · have : (rs ++ [l]).getD i [] = rs.getD i [] := by simp [List.getD_eq_getElem?_getD, List.getElem?_append_left e]
    rw [this]
    obtain ⟨a1, a2, a3, a4⟩ := h.2 i e
    exact ⟨by rw [h365 _ (by omega)]; exact a1, a2, fun k hk => by rw [h366 _ (by omega)]; exact a3 k hk, a4⟩
  · have e2 : i = rs.length := by omega
    subst e2
    have : (rs ++ [l]).getD rs.length [] = l := by simp
    rw [this]
    exact ⟨hl, hl2, hk, hx⟩
theorem c_stone {I : Nat → Int → Int} (h1 : 0 ≤ I 360 1 ∧ I 360 1 ≤ 300) (h8 : 0 ≤ I 360 8 ∧ I 360 8 ≤ 6) (h4 : 0 ≤ I 360 4 ∧ I 360 4 ≤ 20) : mQ yX4_stone cX4_stone 2 (some FieldType.int) 5 [vR (some 360)] I (SnPost I) := by
  refine mQ.of (by decide) rfl (Nat.le_of_ble_eq_true rfl) (fun G nx => ?_)
  refine x_ls (ls2 := [some (vR (some 360)), none]) rfl ?_
  refine x_aload_n dX4_stone_0 rfl ?_
  refine m_getI (kf := 8) 8 (by decide) rfl rfl q2123 rfl dX4_stone_1 ?_
  refine x_bipush dX4_stone_4 (by decide) ?_
  refine x_icmp_ne (t := 11) dX4_stone_6 (by decide) (by omega) (fun c_6 => ?_) (fun c_6 => ?_)
  · skip
    refine x_aload_n dX4_stone_11 rfl ?_
    refine m_cw0 (c_starts) fX4_starts q2271 (by decide) (Nat.le_of_ble_eq_true rfl) dX4_stone_12 ?_
    refine x_aload_n dX4_stone_15 rfl ?_
    refine m_getA (kf := 9) 9 (a := 364) (by decide) rfl rfl q2124 rfl rfl dX4_stone_16 ?_
    refine x_aload_n dX4_stone_19 rfl ?_
    refine m_getI (kf := 8) 8 (by decide) rfl rfl q2123 rfl dX4_stone_20 ?_
    rw [mP_o _ _ _ (by decide) (by decide)]
    refine x_iconst dX4_stone_23 ?_
    refine m_iast (n := 7) rfl rfl (by decide) (by omega) dX4_stone_24 ?_
    refine x_iconst dX4_stone_25 ?_
    refine x_istore_n dX4_stone_26 (by decide) ?_
    rw [mP_u2 _ _ _ (by decide)]
    have h86 : I 360 8 < 6 := by omega
    have hK : eqx I (rr_u2 I 364 (I 360 8) 0) [364, 365, 366] [] := ⟨fun x a b => by
      funext j
      simp at b
      rw [rr_u2_ne _ _ (by omega)], fun j hj => by rw [rr_u2_ne _ _ (by omega)]⟩
    have hlo : Low I (rr_u2 I 364 (I 360 8) 0) (I 360 8) := ⟨fun t ht => by rw [rr_u2_ne _ _ (by omega)], fun v hv => by rw [rr_u2_ne _ _ (by omega)], fun j hj => by rw [rr_u2_ne _ _ (by omega)]⟩
    have hen : encS (rr_u2 I 364 (I 360 8) 0) (I 360 4) (I 360 8) [] := ⟨rr_u2_same _ _ _ _, fun i hi => by simp at hi⟩
    refine rr_ind (W := fun q : List (List Int) × Int × (Nat → Int → Int) => mq G yX4_stone cX4_stone 2 (some FieldType.int) 5 nx _ 27 [some (vR (some 360)), some (vI 1)] [] (mP q.2.2 q.2.1 (-1))) (fun q => 5 - q.1.length) (fun q => q.1.length ≤ 4 ∧ (0 ≤ q.2.1 ∧ q.2.1 ≤ 300) ∧ eqx I q.2.2 [364, 365, 366] [] ∧ Low I q.2.2 (I 360 8) ∧ encS q.2.2 (I 360 4) (I 360 8) q.1 ∧ rStone (mSg I) (I 360 4) = pStone (mSg I) (I 360 4) (5 - q.1.length) q.1 q.2.1) ?_ ([], 0, rr_u2 I 364 (I 360 8) 0) ⟨by simp, by simp, hK, hlo, hen, rfl⟩
    clear hK hlo hen
    rintro ⟨rs, p, K⟩ ⟨hrs, hp, hK, hlo, hen, hst⟩ ih
    simp only at hrs hp hK hlo hen hst ih
    dsimp only
    have e8 : K 360 8 = I 360 8 := hK.2 8 (by decide)
    have e4 : K 360 4 = I 360 4 := hK.2 4 (by decide)
    have hTK : mSg K = mSg I := mSg_eqx hK (by decide) (by decide)
    have h1K : 0 ≤ K 360 1 ∧ K 360 1 ≤ 300 := by rw [hK.2 1 (by decide)]; exact h1
    have hmn : K 364 (K 360 8) = rs.length := by rw [e8]; exact hen.1
    have hst2 : pStone (mSg I) (I 360 4) (5 - rs.length) rs p = if (pRow (mSg I) (I 360 4) rs.length p).1 = -1 then (if mSg I (pRow (mSg I) (I 360 4) rs.length p).2.1 = 47 then pStone (mSg I) (I 360 4) (5 - (rs.length + 1)) (rs ++ [(pRow (mSg I) (I 360 4) rs.length p).2.2]) ((pRow (mSg I) (I 360 4) rs.length p).2.1 + 1) else if mSg I (pRow (mSg I) (I 360 4) rs.length p).2.1 = -1 then (-1, rs ++ [(pRow (mSg I) (I 360 4) rs.length p).2.2]) else (8 * (pRow (mSg I) (I 360 4) rs.length p).2.1 + 1, rs)) else ((pRow (mSg I) (I 360 4) rs.length p).1, rs) := by
      rw [show 5 - rs.length = (5 - (rs.length + 1)) + 1 by omega]
      rfl
    refine x_iload_n dX4_stone_27 rfl ?_
    refine x_if_eq (t := 73) dX4_stone_28 (by decide) (by omega) (fun c_28 => absurd c_28 (by omega)) (fun c_28 => ?_)
    refine x_aload_n dX4_stone_31 rfl ?_
    refine m_ew0 (c_readsRow (I := K) h1K (by omega) (by omega) (by omega) hp) fX4_readsRow q2315 (by decide) (Nat.le_of_ble_eq_true rfl) dX4_stone_32 (fun J hJ => ?_)
    obtain ⟨K2, p2, f2, rfl, hf2, hp2, hE2, ha, hb, hc, hfe, hok⟩ := hJ
    rw [hTK, e4, hmn] at hfe hok
    rw [hmn, e8] at hb hc
    rw [e8] at ha hok
    have hEI : eqx I K2 [364, 365, 366] [] := hK.tr hE2
    have hTK2 : mSg K2 = mSg I := mSg_eqx hEI (by decide) (by decide)
    have h1K2 : 0 ≤ K2 360 1 ∧ K2 360 1 ≤ 300 := by rw [hEI.2 1 (by decide)]; exact h1
    have hlo2 : Low I K2 (I 360 8) := ⟨fun t ht => by rw [ha t (by omega)]; exact hlo.1 t ht, fun v hv => by rw [hb v (by omega)]; exact hlo.2.1 v hv, fun j hj => by rw [hc j (by omega)]; exact hlo.2.2 j hj⟩
    have hs2 := mSg_in I p2
    have hSg : mC yX4_sign cX4_sign 1 (some FieldType.int) 0 [vR (some 360)] (mP K2 p2 f2) (some (vI (mSg I p2))) (mP K2 p2 f2) := by have := c_signP (I := K2) (p := p2) (f := f2) (by omega) h1K2; rw [hTK2] at this; exact this
    have hen2 : f2 = -1 → encS K2 (I 360 4) (I 360 8) (rs ++ [(pRow (mSg I) (I 360 4) rs.length p).2.2]) := fun z => by
      obtain ⟨o1, o2, o3, o4⟩ := hok z
      obtain ⟨k, k1, k2⟩ := pRow_let (T := mSg I) (F := I 360 4) (many := rs.length) (p := p) (by rw [← hfe]; exact z) hp.1 (pDots_pos _ _ _ _ hp.1)
      have o5 := o4.2.2.2.1
      have o6 := o4.2.2.2.2
      simp only [Nat.reduceEqDiff, if_false] at o5 o6
      exact hen.snoc o3 hb hc o5.1 ⟨by omega, o5.2⟩ (fun k hk => by have := o6 k hk; rw [e4] at this; exact this) ⟨k, k1, k2⟩
    refine x_aload_n dX4_stone_35 rfl ?_
    refine m_cv0 (c_isRightP (by omega)) fX4_isRight q2283 (by decide) (Nat.le_of_ble_eq_true rfl) dX4_stone_36 ?_
    refine x_if_eq_b (t := 55) dX4_stone_39 (by decide) (fun c_39 => ?_) (fun c_39 => ?_)
    · skip
      refine x_iconst dX4_stone_55 ?_
      refine x_top (bi (f2 = -1 ∧ mSg I p2 = 47)) (by first | exact (bi_t (by omega)).symm | exact (bi_f (by omega)).symm) ?_
      refine x_istore_n dX4_stone_56 (by decide) ?_
      refine x_aload_n dX4_stone_57 rfl ?_
      refine x_dup dX4_stone_58 rfl ?_
      refine m_getI (kf := 2) 2 (by decide) rfl rfl q2117 rfl dX4_stone_59 ?_
      rw [mP_p]
      refine x_iload_n dX4_stone_62 rfl ?_
      refine m_cs1 (c_truth) fX4_truth q2327 (by decide) (Nat.le_of_ble_eq_true rfl) dX4_stone_63 ?_
      refine x_iadd dX4_stone_66 ?_
      refine m_putI (kf := 2) 2 (by decide) rfl rfl q2117 rfl rfl (rr_nar_i _) dX4_stone_67 ?_
      rw [mP_setp]
      refine x_goto (t := 27) dX4_stone_70 (by decide) ?_
      rw [bi_f (fun z => c_39 z.1), Int.add_zero]
      refine x_iload_n dX4_stone_27 rfl ?_
      refine x_if_eq (t := 73) dX4_stone_28 (by decide) (by omega) (fun _ => ?_) (fun z => absurd rfl z)
      rw [if_neg (by rw [← hfe]; exact c_39)] at hst2
      exact c_stone_73 h1 hp2 (by omega) hEI hlo2 hf2 (fun _ => by rw [hst, hst2]; exact hfe.symm) (fun z => absurd z c_39) (fun z => absurd z c_39)
    · skip
      refine x_aload_n dX4_stone_42 rfl ?_
      refine m_cv0 (hSg) fX4_sign q2279 (by decide) (Nat.le_of_ble_eq_true rfl) dX4_stone_43 ?_
      refine x_bipush dX4_stone_46 (by decide) ?_
      refine x_icmp_ne (t := 55) dX4_stone_48 (by decide) (by omega) (fun c_48 => ?_) (fun c_48 => ?_)
      · skip
        refine x_iconst dX4_stone_55 ?_
        refine x_top (bi (f2 = -1 ∧ mSg I p2 = 47)) (by first | exact (bi_t (by omega)).symm | exact (bi_f (by omega)).symm) ?_
        refine x_istore_n dX4_stone_56 (by decide) ?_
        refine x_aload_n dX4_stone_57 rfl ?_
        refine x_dup dX4_stone_58 rfl ?_
        refine m_getI (kf := 2) 2 (by decide) rfl rfl q2117 rfl dX4_stone_59 ?_
        rw [mP_p]
        refine x_iload_n dX4_stone_62 rfl ?_
        refine m_cs1 (c_truth) fX4_truth q2327 (by decide) (Nat.le_of_ble_eq_true rfl) dX4_stone_63 ?_
        refine x_iadd dX4_stone_66 ?_
        refine m_putI (kf := 2) 2 (by decide) rfl rfl q2117 rfl rfl (rr_nar_i _) dX4_stone_67 ?_
        rw [mP_setp]
        refine x_goto (t := 27) dX4_stone_70 (by decide) ?_
        rw [bi_f (fun z => c_48 z.2), Int.add_zero]
        refine x_iload_n dX4_stone_27 rfl ?_
        refine x_if_eq (t := 73) dX4_stone_28 (by decide) (by omega) (fun _ => ?_) (fun z => absurd rfl z)
        obtain ⟨o1, o2, o3, o4⟩ := hok c_39
        have hen2 := hen2 c_39
        rw [if_pos (by rw [← hfe]; exact c_39), ← o1, if_neg c_48] at hst2
        refine c_stone_73 h1 hp2 (by omega) hEI hlo2 hf2 (fun z => absurd c_39 z) (fun _ z => ?_) (fun _ z => by rw [hst, hst2, if_neg z])
        rw [if_pos z] at hst2
        rw [hst, hst2]
        exact ⟨rfl, ⟨by simp, by simp; omega⟩, hen2⟩
      · skip
        refine x_iconst dX4_stone_51 ?_
        refine x_goto (t := 56) dX4_stone_52 (by decide) ?_
        refine x_top (bi (f2 = -1 ∧ mSg I p2 = 47)) (by first | exact (bi_t (by omega)).symm | exact (bi_f (by omega)).symm) ?_
        refine x_istore_n dX4_stone_56 (by decide) ?_
        refine x_aload_n dX4_stone_57 rfl ?_
        refine x_dup dX4_stone_58 rfl ?_
        refine m_getI (kf := 2) 2 (by decide) rfl rfl q2117 rfl dX4_stone_59 ?_
        rw [mP_p]
        refine x_iload_n dX4_stone_62 rfl ?_
        refine m_cs1 (c_truth) fX4_truth q2327 (by decide) (Nat.le_of_ble_eq_true rfl) dX4_stone_63 ?_
        refine x_iadd dX4_stone_66 ?_
        refine m_putI (kf := 2) 2 (by decide) rfl rfl q2117 rfl rfl (rr_nar_i _) dX4_stone_67 ?_
        rw [mP_setp]
        refine x_goto (t := 27) dX4_stone_70 (by decide) ?_
        rw [bi_t ⟨c_39, c_48⟩]
        obtain ⟨o1, o2, o3, o4⟩ := hok c_39
        have hen2 := hen2 c_39
        have hp3 : p2 < 300 := by
          rcases Int.lt_or_le p2 300 with z | z
          · exact z
          · rw [mSg_no h1 z] at c_48; omega
        rw [if_pos (by rw [← hfe]; exact c_39), ← o1, if_pos c_48] at hst2
        rw [c_39]
        have hgo := ih (rs ++ [(pRow (mSg I) (I 360 4) rs.length p).2.2], p2 + 1, K2) ⟨by simp; omega, by simp only; omega, hEI, hlo2, hen2, by rw [hst, hst2]; simp⟩ (by simp; omega)
        exact x_loc (by repeat first | exact trivial | refine ⟨Or.inr rfl, ?_⟩ | refine ⟨Or.inl rfl, ?_⟩) hgo
  · skip
    refine x_iconst dX4_stone_9 ?_
    refine x_iret rfl dX4_stone_10 (Nat.le_refl _) (Nat.le_refl _) ?_
    exact ⟨_, rfl, rfl, _, rfl, Or.inl ⟨by omega, rfl, rfl⟩⟩
