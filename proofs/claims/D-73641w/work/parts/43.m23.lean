set_option maxRecDepth 100000
/-! THE MODEL's methods, 23: rows of stones, stone() -/
def pDots (T : Int → Int) : Nat → Int → List Int → Int × Int × List Int
  | 0, p, l => (-1, p, l)
  | k + 1, p, l => if T p = 46 then (if l.length = 10 then (8 * p + 3, p, l) else pDots T k (p + 1) (l ++ [-1])) else (-1, p, l)
def pLets (T : Int → Int) (F : Int) : Nat → Int → List Int → Int × Int × List Int
  | 0, p, l => (-1, p, l)
  | k + 1, p, l => if isLt (T p) then (if F ≤ T p - 97 then (8 * p + 2, p, l) else if l.length = 10 then (8 * p + 3, p, l) else pLets T F k (p + 1) (l ++ [T p - 97])) else (-1, p, l)
/-- behind the row's first dots -/
def pRow2 (T : Int → Int) (F : Int) (a : Int × Int × List Int) : Int × Int × List Int :=
  if a.1 = -1 then (if isLt (T a.2.1) then (if (pLets T F (11 - a.2.2.length) a.2.1 a.2.2).1 = -1 then pDots T (11 - (pLets T F (11 - a.2.2.length) a.2.1 a.2.2).2.2.length) (pLets T F (11 - a.2.2.length) a.2.1 a.2.2).2.1 (pLets T F (11 - a.2.2.length) a.2.1 a.2.2).2.2 else pLets T F (11 - a.2.2.length) a.2.1 a.2.2) else (8 * a.2.1 + 1, a.2.1, a.2.2)) else a
def pRow (T : Int → Int) (F many p : Int) : Int × Int × List Int :=
  if isLt (T p) ∨ T p = 46 then (if many = 4 then ((if isLt (T p) ∧ F ≤ T p - 97 then 8 * p + 2 else 8 * p + 3), p, []) else pRow2 T F (pDots T 11 p [])) else (8 * p + 1, p, [])
/-- a row, half read, at w -/
def RowSt (I K : Nat → Int → Int) (w : Int) (l : List Int) : Prop := eqx I K [365, 366] [] ∧ (∀ v, v ≠ w → K 365 v = I 365 v) ∧ (∀ j, ¬ (10 * w ≤ j ∧ j < 10 * w + 10) → K 366 j = I 366 j) ∧ (K 365 w = l.length ∧ l.length ≤ 10) ∧ ∀ i : Nat, i < l.length → K 366 (10 * w + i) = l.getD i 0 ∧ -1 ≤ l.getD i 0 ∧ l.getD i 0 < I 360 4
theorem RowSt.put {I K : Nat → Int → Int} {w v : Int} {l : List Int} (h : RowSt I K w l) (hl : l.length < 10) (hv : -1 ≤ v ∧ v < I 360 4) : RowSt I (putP K w (K 365 w) v) w (l ++ [v]) := by
  obtain ⟨h1, h2, h3, h4, h5⟩ := h
  rw [h4.1]
  unfold putP
  refine ⟨⟨fun x a b => ?_, fun j hj => ?_⟩, fun u hu => ?_, fun j hj => ?_, ⟨by rw [rr_u2_same]; simp, by simp; omega⟩, fun i hi => ?_⟩
  · funext j
    have b2 := b
    simp at b2
    rw [rr_u2_ne _ _ (by omega), rr_u2_ne _ _ (by omega), h1.1 x a b]
  · rw [rr_u2_ne _ _ (by omega), rr_u2_ne _ _ (by omega)]; exact h1.2 j hj
  · rw [rr_u2_ne _ _ (fun z => hu z.2), rr_u2_ne _ _ (by omega)]; exact h2 u hu
  · rw [rr_u2_ne _ _ (by omega), rr_u2_ne _ _ (by omega)]; exact h3 j hj
  · simp only [List.length_append, List.length_singleton] at hi
    rw [rr_u2_ne _ _ (by omega)]
    by_cases e : i = l.length
    · subst e
      rw [rr_u2_same]
      have : (l ++ [v]).getD l.length 0 = v := by simp
      rw [this]
      exact ⟨rfl, hv⟩
    · rw [rr_u2_ne _ _ (by omega)]
      have : (l ++ [v]).getD i 0 = l.getD i 0 := by simp [List.getD_eq_getElem?_getD, List.getElem?_append_left (show i < l.length by omega)]
      rw [this]
      exact h5 i (by omega)
theorem mSg_eqx {I K : Nat → Int → Int} {xs : List Nat} {fs : List Int} (h : eqx I K xs fs) (h1 : 361 ∉ xs) (h2 : (1 : Int) ∉ fs) : mSg K = mSg I := by
  funext q
  unfold mSg
  rw [h.1 361 (by decide) h1, h.2 1 h2]
/-- the rest of readsRow, at a fault -/
theorem c_readsRow_b172 {G : rr_G} {nx : Nat} {F : (Nat → Int → Int) → Prop} {K : Nat → Int → Int} {p f m w : Int} (hf : -1 < f ∧ f < 100000) (h8 : 0 ≤ K 360 8 ∧ K 360 8 < 6) (hF : F (mP (rr_u2 K 364 (K 360 8) (K 364 (K 360 8) + 1)) p f)) : me G yX4_readsRow cX4_readsRow 3 none 4 nx F 172 [some (vR (some 360)), some (vI m), some (vI w)] [] (mP K p f) := by
  have e8 : mP K p f 360 8 = K 360 8 := mP_o K p f (by decide) (by decide)
  refine x_aload_n dX4_readsRow_172 rfl ?_
  refine m_cv0 (c_isRightP (by omega)) fX4_isRight q2283 (by decide) (Nat.le_of_ble_eq_true rfl) dX4_readsRow_173 ?_
  refine x_if_eq_b (t := 196) dX4_readsRow_176 (by decide) (fun c_176 => ?_) (fun c_176 => ?_)
  · skip
    refine x_aload_n dX4_readsRow_196 rfl ?_
    refine m_getA (kf := 9) 9 (a := 364) (by decide) rfl rfl q2124 rfl rfl dX4_readsRow_197 ?_
    refine x_aload_n dX4_readsRow_200 rfl ?_
    refine m_getI (kf := 8) 8 (by decide) rfl rfl q2123 rfl dX4_readsRow_201 ?_
    rw [e8]
    refine x_dup2 dX4_readsRow_204 rfl rfl ?_
    refine m_iald (n := 7) rfl rfl (by decide) (by omega) dX4_readsRow_205 ?_
    rw [mP_a _ _ _ (by decide)]
    refine x_iconst dX4_readsRow_206 ?_
    refine x_iadd dX4_readsRow_207 ?_
    refine m_iast (n := 7) rfl rfl (by decide) (by omega) dX4_readsRow_208 ?_
    refine x_vret rfl dX4_readsRow_209 (Nat.le_refl _) (Nat.le_refl _) ?_
    refine ⟨rfl, rfl, _, rfl, ?_⟩
    rw [mP_u2 _ _ _ (by decide)]
    exact hF
  · skip
    exfalso; omega
theorem c_readsRow_b150 {G : rr_G} {nx : Nat} {F : (Nat → Int → Int) → Prop} {K : Nat → Int → Int} {p f m w : Int} (hf : -1 < f ∧ f < 100000) (h8 : 0 ≤ K 360 8 ∧ K 360 8 < 6) (hF : F (mP (rr_u2 K 364 (K 360 8) (K 364 (K 360 8) + 1)) p f)) : me G yX4_readsRow cX4_readsRow 3 none 4 nx F 150 [some (vR (some 360)), some (vI m), some (vI w)] [] (mP K p f) := by
  have hgo : me G yX4_readsRow cX4_readsRow 3 none 4 nx F 172 [some (vR (some 360)), some (vI m), some (vI w)] [] (mP K p f) := c_readsRow_b172 hf h8 hF
  refine x_aload_n dX4_readsRow_150 rfl ?_
  refine m_cv0 (c_isRightP (by omega)) fX4_isRight q2283 (by decide) (Nat.le_of_ble_eq_true rfl) dX4_readsRow_151 ?_
  refine x_if_eq_b (t := 172) dX4_readsRow_154 (by decide) (fun c_154 => ?_) (fun c_154 => ?_)
  · skip
    exact hgo
  · skip
    exfalso; omega
theorem c_readsRow_b103 {G : rr_G} {nx : Nat} {F : (Nat → Int → Int) → Prop} {K : Nat → Int → Int} {p f m w : Int} (hf : -1 < f ∧ f < 100000) (h8 : 0 ≤ K 360 8 ∧ K 360 8 < 6) (hF : F (mP (rr_u2 K 364 (K 360 8) (K 364 (K 360 8) + 1)) p f)) : me G yX4_readsRow cX4_readsRow 3 none 4 nx F 103 [some (vR (some 360)), some (vI m), some (vI w)] [] (mP K p f) := by
  have hgo : me G yX4_readsRow cX4_readsRow 3 none 4 nx F 150 [some (vR (some 360)), some (vI m), some (vI w)] [] (mP K p f) := c_readsRow_b150 hf h8 hF
  refine x_aload_n dX4_readsRow_103 rfl ?_
  refine m_cv0 (c_isRightP (by omega)) fX4_isRight q2283 (by decide) (Nat.le_of_ble_eq_true rfl) dX4_readsRow_104 ?_
  refine x_if_eq_b (t := 127) dX4_readsRow_107 (by decide) (fun c_107 => ?_) (fun c_107 => ?_)
  · skip
    refine x_aload_n dX4_readsRow_127 rfl ?_
    refine m_cv0 (c_isRightP (by omega)) fX4_isRight q2283 (by decide) (Nat.le_of_ble_eq_true rfl) dX4_readsRow_128 ?_
    refine x_if_eq_b (t := 150) dX4_readsRow_131 (by decide) (fun c_131 => ?_) (fun c_131 => ?_)
    · skip
      exact hgo
    · skip
      exfalso; omega
  · skip
    exfalso; omega
/-- what holds behind readsRow -/
def RrPost (I : Nat → Int → Int) (p : Int) (J : Nat → Int → Int) : Prop := ∃ K p' f', J = mP K p' f' ∧ (-1 ≤ f' ∧ f' < 100000) ∧ (0 ≤ p' ∧ p' ≤ 300) ∧ eqx I K [364, 365, 366] [] ∧ (∀ t, t ≠ I 360 8 → K 364 t = I 364 t) ∧ (∀ v, v < 4 * I 360 8 + I 364 (I 360 8) → K 365 v = I 365 v) ∧ (∀ j, j < 10 * (4 * I 360 8 + I 364 (I 360 8)) → K 366 j = I 366 j) ∧ f' = (pRow (mSg I) (I 360 4) (I 364 (I 360 8)) p).1 ∧ (f' = -1 → p' = (pRow (mSg I) (I 360 4) (I 364 (I 360 8)) p).2.1 ∧ I 364 (I 360 8) < 4 ∧ K 364 (I 360 8) = I 364 (I 360 8) + 1 ∧ RowSt I (fun x => if x = 364 then I 364 else K x) (4 * I 360 8 + I 364 (I 360 8)) (pRow (mSg I) (I 360 4) (I 364 (I 360 8)) p).2.2)
theorem RrPost.of {I K : Nat → Int → Int} {p p' f' : Int} {l : List Int} (hf : -1 ≤ f' ∧ f' < 100000) (hp : 0 ≤ p' ∧ p' ≤ 300) (h8 : 0 ≤ I 360 8 ∧ I 360 8 < 6) (hR : RowSt I K (4 * I 360 8 + I 364 (I 360 8)) l) (h : f' = (pRow (mSg I) (I 360 4) (I 364 (I 360 8)) p).1) (h2 : f' = -1 → I 364 (I 360 8) < 4 ∧ p' = (pRow (mSg I) (I 360 4) (I 364 (I 360 8)) p).2.1 ∧ l = (pRow (mSg I) (I 360 4) (I 364 (I 360 8)) p).2.2) : RrPost I p (mP (rr_u2 K 364 (K 360 8) (K 364 (K 360 8) + 1)) p' f') := by
  have e8 := hR.1.2 8 (by decide)
  have e364 := hR.1.1 364 (by decide) (by decide)
  rw [e8, e364]
  refine ⟨_, p', f', rfl, hf, hp, ⟨fun x a b => ?_, fun j hj => ?_⟩, fun t ht => ?_, fun v hv => ?_, fun j hj => ?_, h, fun z => ?_⟩
  · funext j
    have b2 := b
    simp at b2
    rw [rr_u2_ne _ _ (by omega), hR.1.1 x a (by simp; omega)]
  · rw [rr_u2_ne _ _ (by omega)]; exact hR.1.2 j hj
  · rw [rr_u2_ne _ _ (fun q => ht q.2), e364]
  · rw [rr_u2_ne _ _ (by omega)]; exact hR.2.1 v (by omega)
  · rw [rr_u2_ne _ _ (by omega)]; exact hR.2.2.1 j (by omega)
  · obtain ⟨z1, z2, z3⟩ := h2 z
    refine ⟨z2, z1, rr_u2_same _ _ _ _, ?_⟩
    rw [← z3]
    have hx : (fun x => if x = 364 then I 364 else rr_u2 K 364 (I 360 8) (I 364 (I 360 8) + 1) x) = K := by
      funext x j
      split
      · rename_i e; rw [e, e364]
      · rename_i e; rw [rr_u2_ne _ _ (fun q => e q.1)]
    rw [hx]
    exact hR
theorem pDots_st (T : Int → Int) (p : Int) {l : List Int} (h : l.length ≤ 10) : pDots T (11 - l.length) p l = if T p = 46 then (if l.length = 10 then (8 * p + 3, p, l) else pDots T (11 - (l.length + 1)) (p + 1) (l ++ [-1])) else (-1, p, l) := by
  rw [show 11 - l.length = (11 - (l.length + 1)) + 1 by omega]
  rfl
theorem pLets_st (T : Int → Int) (F p : Int) {l : List Int} (h : l.length ≤ 10) : pLets T F (11 - l.length) p l = if isLt (T p) then (if F ≤ T p - 97 then (8 * p + 2, p, l) else if l.length = 10 then (8 * p + 3, p, l) else pLets T F (11 - (l.length + 1)) (p + 1) (l ++ [T p - 97])) else (-1, p, l) := by
  rw [show 11 - l.length = (11 - (l.length + 1)) + 1 by omega]
  rfl
theorem c_readsRow_79 {I : Nat → Int → Int} {G : rr_G} {nx : Nat} {F : (Nat → Int → Int) → Prop} {p0 f : Int} (h1 : 0 ≤ I 360 1 ∧ I 360 1 ≤ 300) (h8 : 0 ≤ I 360 8 ∧ I 360 8 < 6) (h4 : 0 ≤ I 360 4 ∧ I 360 4 ≤ 20) (hm : 0 ≤ I 364 (I 360 8) ∧ I 364 (I 360 8) ≤ 4) (hp0 : 0 ≤ p0 ∧ p0 ≤ 300) (hF : RrPost I p0 = F)
    (hcase : (f = -1 ∧ I 364 (I 360 8) < 4 ∧ (isLt (mSg I p0) ∨ mSg I p0 = 46)) ∨ (f = (pRow (mSg I) (I 360 4) (I 364 (I 360 8)) p0).1 ∧ -1 < f ∧ f < 100000)) : me G yX4_readsRow cX4_readsRow 3 none 4 nx F 79 [some (vR (some 360)), some (vI (I 364 (I 360 8))), none] [] (mP I p0 f) := by
  have e8 : ∀ q g, mP I q g 360 8 = I 360 8 := fun q g => mP_o I q g (by decide) (by decide)
  rcases hcase with ⟨rfl, hm4, hlt⟩ | ⟨hf, hf1, hf2⟩
  · have hpr : pRow (mSg I) (I 360 4) (I 364 (I 360 8)) p0 = pRow2 (mSg I) (I 360 4) (pDots (mSg I) 11 p0 []) := by
      unfold pRow
      rw [if_pos hlt, if_neg (by omega)]
    have hR0 : mC yX4_isRight cX4_isRight 1 (some FieldType.boolean) 0 [vR (some 360)] (mP I p0 (-1)) (some (vI (bi ((-1 : Int) = -1)))) (mP I p0 (-1)) := c_isRightP (by omega)
    refine x_aload_n dX4_readsRow_79 rfl ?_
    refine m_cv0 (hR0) fX4_isRight q2283 (by decide) (Nat.le_of_ble_eq_true rfl) dX4_readsRow_80 ?_
    refine x_if_ne_b (t := 87) dX4_readsRow_83 (by decide) (fun c_83 => ?_) (fun c_83 => ?_)
    · skip
      refine x_iconst dX4_readsRow_87 ?_
      refine x_aload_n dX4_readsRow_88 rfl ?_
      refine m_getI (kf := 8) 8 (by decide) rfl rfl q2123 rfl dX4_readsRow_89 ?_
      rw [e8]
      refine x_imul dX4_readsRow_92 ?_
      refine x_iload_n dX4_readsRow_93 rfl ?_
      refine x_iadd dX4_readsRow_94 ?_
      refine x_istore_n dX4_readsRow_95 (by decide) ?_
      refine x_aload_n dX4_readsRow_96 rfl ?_
      refine m_getA (kf := 10) 10 (a := 365) (by decide) rfl rfl q2125 rfl rfl dX4_readsRow_97 ?_
      refine x_iload_n dX4_readsRow_100 rfl ?_
      refine x_iconst dX4_readsRow_101 ?_
      refine m_iast (n := 28) rfl rfl (by decide) (by omega) dX4_readsRow_102 ?_
      rw [mP_u2 _ _ _ (by decide)]
      have hK : RowSt I (rr_u2 I 365 (4 * I 360 8 + I 364 (I 360 8)) 0) (4 * I 360 8 + I 364 (I 360 8)) [] := ⟨⟨fun x a b => by
        funext j
        simp at b
        rw [rr_u2_ne _ _ (by omega)], fun j hj => by rw [rr_u2_ne _ _ (by omega)]⟩, fun v hv => by rw [rr_u2_ne _ _ (fun z => hv z.2)], fun j hj => by rw [rr_u2_ne _ _ (by omega)], ⟨rr_u2_same _ _ _ _, by simp⟩, fun i hi => by simp at hi⟩
      have hp := hp0
      refine rr_ind (W := fun q : (Nat → Int → Int) × Int × List Int => me G yX4_readsRow cX4_readsRow 3 none 4 nx _ 103 [some (vR (some 360)), some (vI (I 364 (I 360 8))), some (vI (4 * I 360 8 + I 364 (I 360 8)))] [] (mP q.1 q.2.1 (-1))) (fun q => 10 - q.2.2.length) (fun q => RowSt I q.1 (4 * I 360 8 + I 364 (I 360 8)) q.2.2 ∧ (0 ≤ q.2.1 ∧ q.2.1 ≤ 300) ∧ pDots (mSg I) 11 p0 [] = pDots (mSg I) (11 - q.2.2.length) q.2.1 q.2.2) ?_ (_, p0, []) ⟨hK, hp, rfl⟩
      clear hK hp
      rintro ⟨K, p, l⟩ ⟨hK, hp, hst⟩ ih103
      simp only at hK hp hst ih103
      dsimp only
      have hl10 := hK.2.2.2.1.2
      have hTK : mSg K = mSg I := mSg_eqx hK.1 (by decide) (by decide)
      have h1K : 0 ≤ K 360 1 ∧ K 360 1 ≤ 300 := by rw [hK.1.2 1 (by decide)]; exact h1
      have h8K : 0 ≤ K 360 8 ∧ K 360 8 < 6 := by rw [hK.1.2 8 (by decide)]; exact h8
      have e4K := hK.1.2 4 (by decide)
      have e365 := hK.2.2.2.1.1
      have hsg := mSg_in I p
      have hst2 := pDots_st (mSg I) p hl10
      have hRt : mC yX4_isRight cX4_isRight 1 (some FieldType.boolean) 0 [vR (some 360)] (mP K p (-1)) (some (vI (bi ((-1 : Int) = -1)))) (mP K p (-1)) := c_isRightP (by omega)
      have hSg : mC yX4_sign cX4_sign 1 (some FieldType.int) 0 [vR (some 360)] (mP K p (-1)) (some (vI (mSg I p))) (mP K p (-1)) := by have := c_signP (I := K) (p := p) (f := -1) (by omega) h1K; rw [hTK] at this; exact this
      have hLt : mC yX4_isLetter cX4_isLetter 1 (some FieldType.boolean) 1 [vR (some 360)] (mP K p (-1)) (some (vI (bi (isLt (mSg I p))))) (mP K p (-1)) := by have := c_isLetter (I := K) (p := p) (f := -1) (by omega) h1K; rw [hTK] at this; exact this
      have hPl := c_placeTaken (K := K) (p := p) (w := 4 * I 360 8 + I 364 (I 360 8)) (by omega) h1K (by omega) (by omega) (by omega)
      rw [hTK, e4K, e365] at hPl
      refine x_aload_n dX4_readsRow_103 rfl ?_
      refine m_cv0 (hRt) fX4_isRight q2283 (by decide) (Nat.le_of_ble_eq_true rfl) dX4_readsRow_104 ?_
      refine x_if_eq_b (t := 127) dX4_readsRow_107 (by decide) (fun c_107 => ?_) (fun c_107 => ?_)
      · skip
        exact absurd rfl c_107
      · skip
        refine x_aload_n dX4_readsRow_110 rfl ?_
        refine m_cv0 (hSg) fX4_sign q2279 (by decide) (Nat.le_of_ble_eq_true rfl) dX4_readsRow_111 ?_
        refine x_bipush dX4_readsRow_114 (by decide) ?_
        refine x_icmp_ne (t := 127) dX4_readsRow_116 (by decide) (by omega) (fun c_116 => ?_) (fun c_116 => ?_)
        · skip
          rw [if_neg c_116] at hst2
          rw [hst2] at hst
          have hpr2 : pRow (mSg I) (I 360 4) (I 364 (I 360 8)) p0 = if isLt (mSg I p) then (if (pLets (mSg I) (I 360 4) (11 - l.length) p l).1 = -1 then pDots (mSg I) (11 - (pLets (mSg I) (I 360 4) (11 - l.length) p l).2.2.length) (pLets (mSg I) (I 360 4) (11 - l.length) p l).2.1 (pLets (mSg I) (I 360 4) (11 - l.length) p l).2.2 else pLets (mSg I) (I 360 4) (11 - l.length) p l) else (8 * p + 1, p, l) := by
            rw [hpr, hst]
            unfold pRow2
            rw [if_pos rfl]
          have hfl : flt (-1) 1 p = 8 * p + 1 := if_pos rfl
          have hFl : mC yX4_fails cX4_fails 3 none 0 [vR (some 360), vI 1, vI p] (mP K p (-1)) none (mP K p (8 * p + 1)) := by have := c_failsP (I := K) (p := p) (f := -1) (kind := 1) (place := p) (by omega); rw [hfl] at this; exact this
          refine x_aload_n dX4_readsRow_127 rfl ?_
          refine m_cv0 (hRt) fX4_isRight q2283 (by decide) (Nat.le_of_ble_eq_true rfl) dX4_readsRow_128 ?_
          refine x_if_eq_b (t := 150) dX4_readsRow_131 (by decide) (fun c_131 => ?_) (fun c_131 => ?_)
          · skip
            exact absurd rfl c_131
          · skip
            refine x_aload_n dX4_readsRow_134 rfl ?_
            refine m_cv0 (hLt) fX4_isLetter q2319 (by decide) (Nat.le_of_ble_eq_true rfl) dX4_readsRow_135 ?_
            refine x_if_ne_b (t := 150) dX4_readsRow_138 (by decide) (fun c_138 => ?_) (fun c_138 => ?_)
            · skip
              rw [if_pos c_138] at hpr2
              clear ih103 hst hst2 hRt hSg hLt hPl
              generalize hl0 : pLets (mSg I) (I 360 4) (11 - l.length) p l = b0 at hpr2
              refine rr_ind (W := fun q : (Nat → Int → Int) × Int × List Int => me G yX4_readsRow cX4_readsRow 3 none 4 nx _ 150 [some (vR (some 360)), some (vI (I 364 (I 360 8))), some (vI (4 * I 360 8 + I 364 (I 360 8)))] [] (mP q.1 q.2.1 (-1))) (fun q => 10 - q.2.2.length) (fun q => RowSt I q.1 (4 * I 360 8 + I 364 (I 360 8)) q.2.2 ∧ (0 ≤ q.2.1 ∧ q.2.1 ≤ 300) ∧ b0 = pLets (mSg I) (I 360 4) (11 - q.2.2.length) q.2.1 q.2.2) ?_ (K, p, l) ⟨hK, hp, hl0.symm⟩
              clear hK hp hfl hFl hl10 hTK h1K h8K e4K e365 hsg c_138 hl0
              rintro ⟨K, p, l⟩ ⟨hK, hp, hst⟩ ih150
              simp only at hK hp hst ih150
              dsimp only
              have hl10 := hK.2.2.2.1.2
              have hTK : mSg K = mSg I := mSg_eqx hK.1 (by decide) (by decide)
              have h1K : 0 ≤ K 360 1 ∧ K 360 1 ≤ 300 := by rw [hK.1.2 1 (by decide)]; exact h1
              have h8K : 0 ≤ K 360 8 ∧ K 360 8 < 6 := by rw [hK.1.2 8 (by decide)]; exact h8
              have e4K := hK.1.2 4 (by decide)
              have e365 := hK.2.2.2.1.1
              have hsg := mSg_in I p
              have hst2 := pLets_st (mSg I) (I 360 4) p hl10
              have hRt : mC yX4_isRight cX4_isRight 1 (some FieldType.boolean) 0 [vR (some 360)] (mP K p (-1)) (some (vI (bi ((-1 : Int) = -1)))) (mP K p (-1)) := c_isRightP (by omega)
              have hSg : mC yX4_sign cX4_sign 1 (some FieldType.int) 0 [vR (some 360)] (mP K p (-1)) (some (vI (mSg I p))) (mP K p (-1)) := by have := c_signP (I := K) (p := p) (f := -1) (by omega) h1K; rw [hTK] at this; exact this
              have hLt : mC yX4_isLetter cX4_isLetter 1 (some FieldType.boolean) 1 [vR (some 360)] (mP K p (-1)) (some (vI (bi (isLt (mSg I p))))) (mP K p (-1)) := by have := c_isLetter (I := K) (p := p) (f := -1) (by omega) h1K; rw [hTK] at this; exact this
              have hPl := c_placeTaken (K := K) (p := p) (w := 4 * I 360 8 + I 364 (I 360 8)) (by omega) h1K (by omega) (by omega) (by omega)
              rw [hTK, e4K, e365] at hPl
              refine x_aload_n dX4_readsRow_150 rfl ?_
              refine m_cv0 (hRt) fX4_isRight q2283 (by decide) (Nat.le_of_ble_eq_true rfl) dX4_readsRow_151 ?_
              refine x_if_eq_b (t := 172) dX4_readsRow_154 (by decide) (fun c_154 => ?_) (fun c_154 => ?_)
              · skip
                exact absurd rfl c_154
              · skip
                refine x_aload_n dX4_readsRow_157 rfl ?_
                refine m_cv0 (hLt) fX4_isLetter q2319 (by decide) (Nat.le_of_ble_eq_true rfl) dX4_readsRow_158 ?_
                refine x_if_eq_b (t := 172) dX4_readsRow_161 (by decide) (fun c_161 => ?_) (fun c_161 => ?_)
                · skip
                  rw [if_neg c_161] at hst2
                  rw [hst2] at hst
                  rw [hst, if_pos rfl] at hpr2
                  clear ih150 hst hst2 hRt hSg hLt hPl
                  generalize hl0 : pDots (mSg I) (11 - (-1, p, l).2.2.length) (-1, p, l).2.1 (-1, p, l).2.2 = d0 at hpr2
                  refine rr_ind (W := fun q : (Nat → Int → Int) × Int × List Int => me G yX4_readsRow cX4_readsRow 3 none 4 nx _ 172 [some (vR (some 360)), some (vI (I 364 (I 360 8))), some (vI (4 * I 360 8 + I 364 (I 360 8)))] [] (mP q.1 q.2.1 (-1))) (fun q => 10 - q.2.2.length) (fun q => RowSt I q.1 (4 * I 360 8 + I 364 (I 360 8)) q.2.2 ∧ (0 ≤ q.2.1 ∧ q.2.1 ≤ 300) ∧ d0 = pDots (mSg I) (11 - q.2.2.length) q.2.1 q.2.2) ?_ (K, p, l) ⟨hK, hp, hl0.symm⟩
                  clear hK hp hl10 hTK h1K h8K e4K e365 hsg hl0
                  rintro ⟨K, p, l⟩ ⟨hK, hp, hst⟩ ih172
                  simp only at hK hp hst ih172
                  dsimp only
                  have hl10 := hK.2.2.2.1.2
                  have hTK : mSg K = mSg I := mSg_eqx hK.1 (by decide) (by decide)
                  have h1K : 0 ≤ K 360 1 ∧ K 360 1 ≤ 300 := by rw [hK.1.2 1 (by decide)]; exact h1
                  have h8K : 0 ≤ K 360 8 ∧ K 360 8 < 6 := by rw [hK.1.2 8 (by decide)]; exact h8
                  have e4K := hK.1.2 4 (by decide)
                  have e365 := hK.2.2.2.1.1
                  have hsg := mSg_in I p
                  have hst2 := pDots_st (mSg I) p hl10
                  have hRt : mC yX4_isRight cX4_isRight 1 (some FieldType.boolean) 0 [vR (some 360)] (mP K p (-1)) (some (vI (bi ((-1 : Int) = -1)))) (mP K p (-1)) := c_isRightP (by omega)
                  have hSg : mC yX4_sign cX4_sign 1 (some FieldType.int) 0 [vR (some 360)] (mP K p (-1)) (some (vI (mSg I p))) (mP K p (-1)) := by have := c_signP (I := K) (p := p) (f := -1) (by omega) h1K; rw [hTK] at this; exact this
                  have hLt : mC yX4_isLetter cX4_isLetter 1 (some FieldType.boolean) 1 [vR (some 360)] (mP K p (-1)) (some (vI (bi (isLt (mSg I p))))) (mP K p (-1)) := by have := c_isLetter (I := K) (p := p) (f := -1) (by omega) h1K; rw [hTK] at this; exact this
                  have hPl := c_placeTaken (K := K) (p := p) (w := 4 * I 360 8 + I 364 (I 360 8)) (by omega) h1K (by omega) (by omega) (by omega)
                  rw [hTK, e4K, e365] at hPl
                  refine x_aload_n dX4_readsRow_172 rfl ?_
                  refine m_cv0 (hRt) fX4_isRight q2283 (by decide) (Nat.le_of_ble_eq_true rfl) dX4_readsRow_173 ?_
                  refine x_if_eq_b (t := 196) dX4_readsRow_176 (by decide) (fun c_176 => ?_) (fun c_176 => ?_)
                  · skip
                    exact absurd rfl c_176
                  · skip
                    refine x_aload_n dX4_readsRow_179 rfl ?_
                    refine m_cv0 (hSg) fX4_sign q2279 (by decide) (Nat.le_of_ble_eq_true rfl) dX4_readsRow_180 ?_
                    refine x_bipush dX4_readsRow_183 (by decide) ?_
                    refine x_icmp_ne (t := 196) dX4_readsRow_185 (by decide) (by omega) (fun c_185 => ?_) (fun c_185 => ?_)
                    · skip
                      rw [if_neg c_185] at hst2
                      rw [hst2] at hst
                      rw [hst] at hpr2
                      have e8K : mP K p (-1) 360 8 = K 360 8 := mP_o K p (-1) (by decide) (by decide)
                      refine x_aload_n dX4_readsRow_196 rfl ?_
                      refine m_getA (kf := 9) 9 (a := 364) (by decide) rfl rfl q2124 rfl rfl dX4_readsRow_197 ?_
                      refine x_aload_n dX4_readsRow_200 rfl ?_
                      refine m_getI (kf := 8) 8 (by decide) rfl rfl q2123 rfl dX4_readsRow_201 ?_
                      rw [e8K]
                      refine x_dup2 dX4_readsRow_204 rfl rfl ?_
                      refine m_iald (n := 7) rfl rfl (by decide) (by omega) dX4_readsRow_205 ?_
                      rw [mP_a _ _ _ (by decide)]
                      refine x_iconst dX4_readsRow_206 ?_
                      refine x_iadd dX4_readsRow_207 ?_
                      refine m_iast (n := 7) rfl rfl (by decide) (by omega) dX4_readsRow_208 ?_
                      refine x_vret rfl dX4_readsRow_209 (Nat.le_refl _) (Nat.le_refl _) ?_
                      refine ⟨rfl, rfl, _, rfl, ?_⟩
                      rw [mP_u2 _ _ _ (by decide), ← hF]
                      exact RrPost.of (by omega) hp h8 hK (by rw [hpr2]) (fun _ => ⟨hm4, by rw [hpr2], by rw [hpr2]⟩)
                    · skip
                      refine x_aload_n dX4_readsRow_188 rfl ?_
                      refine x_iload_n dX4_readsRow_189 rfl ?_
                      refine m_cw1 (hPl) fX4_placeTaken q2323 (by decide) (Nat.le_of_ble_eq_true rfl) dX4_readsRow_190 ?_
                      refine x_goto (t := 172) dX4_readsRow_193 (by decide) ?_
                      have c46 : mSg I p = 46 := c_185
                      rw [if_pos c46] at hst2
                      have hp2 : p < 300 := by
                        rcases Int.lt_or_le p 300 with z | z
                        · exact z
                        · rw [mSg_no h1 z] at c46; omega
                      rw [if_neg (fun z => by omega)]
                      by_cases el : l.length = 10
                      · rw [if_pos el] at hst2
                        rw [if_pos (by omega)]
                        refine c_readsRow_b172 (by omega) h8K ?_
                        rw [← hF]
                        exact RrPost.of (by omega) (by omega) h8 hK (by rw [hpr2, hst, hst2]) (fun z => by omega)
                      · rw [if_neg el] at hst2
                        rw [if_neg (by omega)]
                        have hv : plV (mSg I p) = -1 := by unfold plV; rw [if_neg (by omega)]
                        rw [hv]
                        have hKp := hK.put (v := -1) (by omega) (by omega)
                        rw [e365] at hKp
                        exact ih172 (_, p + 1, l ++ [-1]) ⟨hKp, by simp only; omega, by rw [hst, hst2]; simp⟩ (by simp; omega)
                · skip
                  refine x_aload_n dX4_readsRow_164 rfl ?_
                  refine x_iload_n dX4_readsRow_165 rfl ?_
                  refine m_cw1 (hPl) fX4_placeTaken q2323 (by decide) (Nat.le_of_ble_eq_true rfl) dX4_readsRow_166 ?_
                  refine x_goto (t := 150) dX4_readsRow_169 (by decide) ?_
                  have clt : isLt (mSg I p) := c_161
                  rw [if_pos clt] at hst2
                  have hp2 : p < 300 := by
                    rcases Int.lt_or_le p 300 with z | z
                    · exact z
                    · rw [mSg_no h1 z] at clt; omega
                  by_cases eF : I 360 4 ≤ mSg I p - 97
                  · rw [if_pos eF] at hst2
                    rw [if_pos ⟨clt, eF⟩]
                    refine c_readsRow_b150 (by omega) h8K ?_
                    rw [← hF]
                    exact RrPost.of (by omega) (by omega) h8 hK (by rw [hpr2, hst, hst2]; rw [if_neg (by simp only; omega)]) (fun z => by omega)
                  · rw [if_neg eF] at hst2
                    rw [if_neg (fun z => eF z.2)]
                    by_cases el : l.length = 10
                    · rw [if_pos el] at hst2
                      rw [if_pos (by omega)]
                      refine c_readsRow_b150 (by omega) h8K ?_
                      rw [← hF]
                      exact RrPost.of (by omega) (by omega) h8 hK (by rw [hpr2, hst, hst2]; rw [if_neg (by simp only; omega)]) (fun z => by omega)
                    · rw [if_neg el] at hst2
                      rw [if_neg (by omega)]
                      have hv : plV (mSg I p) = mSg I p - 97 := by unfold plV; rw [if_pos clt]
                      rw [hv]
                      have hKp := hK.put (v := mSg I p - 97) (by omega) (by omega)
                      rw [e365] at hKp
                      exact ih150 (_, p + 1, l ++ [mSg I p - 97]) ⟨hKp, by simp only; omega, by rw [hst, hst2]; simp⟩ (by simp; omega)
            · skip
              refine x_aload_n dX4_readsRow_141 rfl ?_
              refine x_iconst dX4_readsRow_142 ?_
              refine x_aload_n dX4_readsRow_143 rfl ?_
              refine m_getI (kf := 2) 2 (by decide) rfl rfl q2117 rfl dX4_readsRow_144 ?_
              rw [mP_p]
              refine m_cw2 (hFl) fX4_fails q2302 (by decide) (Nat.le_of_ble_eq_true rfl) dX4_readsRow_147 ?_
              refine c_readsRow_b150 (by omega) h8K ?_
              rw [← hF]
              exact RrPost.of (by omega) (by omega) h8 hK (by rw [hpr2, if_neg c_138]) (fun z => by omega)
        · skip
          refine x_aload_n dX4_readsRow_119 rfl ?_
          refine x_iload_n dX4_readsRow_120 rfl ?_
          refine m_cw1 (hPl) fX4_placeTaken q2323 (by decide) (Nat.le_of_ble_eq_true rfl) dX4_readsRow_121 ?_
          refine x_goto (t := 103) dX4_readsRow_124 (by decide) ?_
          have c46 : mSg I p = 46 := c_116
          rw [if_pos c46] at hst2
          have hp2 : p < 300 := by
            rcases Int.lt_or_le p 300 with z | z
            · exact z
            · rw [mSg_no h1 z] at c46; omega
          rw [if_neg (fun z => by omega)]
          by_cases el : l.length = 10
          · rw [if_pos el] at hst2
            rw [if_pos (by omega)]
            refine c_readsRow_b103 (by omega) h8K ?_
            rw [← hF]
            exact RrPost.of (by omega) (by omega) h8 hK (by rw [hpr, hst, hst2]; unfold pRow2; rw [if_neg (by simp only; omega)]) (fun z => by omega)
          · rw [if_neg el] at hst2
            rw [if_neg (by omega)]
            have hv : plV (mSg I p) = -1 := by unfold plV; rw [if_neg (by omega)]
            rw [hv]
            have hKp := hK.put (v := -1) (by omega) (by omega)
            rw [e365] at hKp
            exact ih103 (_, p + 1, l ++ [-1]) ⟨hKp, by simp only; omega, by rw [hst, hst2]; simp⟩ (by simp; omega)
    · skip
      exact absurd rfl c_83
  · have hR0 : mC yX4_isRight cX4_isRight 1 (some FieldType.boolean) 0 [vR (some 360)] (mP I p0 f) (some (vI (bi (f = -1)))) (mP I p0 f) := c_isRightP (by omega)
    refine x_aload_n dX4_readsRow_79 rfl ?_
    refine m_cv0 (hR0) fX4_isRight q2283 (by decide) (Nat.le_of_ble_eq_true rfl) dX4_readsRow_80 ?_
    refine x_if_ne_b (t := 87) dX4_readsRow_83 (by decide) (fun c_83 => ?_) (fun c_83 => ?_)
    · skip
      exfalso; omega
    · skip
      refine x_vret rfl dX4_readsRow_86 (Nat.le_refl _) (Nat.le_refl _) ?_
      refine ⟨rfl, rfl, _, rfl, ?_⟩
      rw [← hF]
      exact ⟨I, p0, f, rfl, by omega, hp0, eqx.rf _ _ _, fun _ _ => rfl, fun _ _ => rfl, fun _ _ => rfl, hf, fun z => by omega⟩
theorem c_readsRow {I : Nat → Int → Int} {p : Int} (h1 : 0 ≤ I 360 1 ∧ I 360 1 ≤ 300) (h8 : 0 ≤ I 360 8 ∧ I 360 8 < 6) (h4 : 0 ≤ I 360 4 ∧ I 360 4 ≤ 20) (hm : 0 ≤ I 364 (I 360 8) ∧ I 364 (I 360 8) ≤ 4) (hp : 0 ≤ p ∧ p ≤ 300) : mE yX4_readsRow cX4_readsRow 3 none 4 [vR (some 360)] (mP I p (-1)) (RrPost I p) := by
  have e8 : ∀ q g, mP I q g 360 8 = I 360 8 := fun q g => mP_o I q g (by decide) (by decide)
  have e4 : ∀ q g, mP I q g 360 4 = I 360 4 := fun q g => mP_o I q g (by decide) (by decide)
  have e364 : ∀ q g, mP I q g 364 = I 364 := fun q g => by funext j; exact mP_a I q g (by decide) j
  have hs := mSg_in I p
  have f1 : flt (-1) 1 p = 8 * p + 1 := if_pos rfl
  have f2 : flt (-1) 2 p = 8 * p + 2 := if_pos rfl
  have f3 : flt (-1) 3 p = 8 * p + 3 := if_pos rfl
  have f13 : flt (8 * p + 1) 3 p = 8 * p + 1 := if_neg (by omega)
  have f23 : flt (8 * p + 2) 3 p = 8 * p + 2 := if_neg (by omega)
  refine mE.of (by decide) rfl (Nat.le_of_ble_eq_true rfl) (fun G nx => ?_)
  refine x_ls (ls2 := [some (vR (some 360)), none, none]) rfl ?_
  generalize hF : RrPost I p = F
  have hgo := fun f hc => c_readsRow_79 (G := G) (nx := nx) (F := F) (f := f) h1 h8 h4 hm hp hF hc
  refine x_aload_n dX4_readsRow_0 rfl ?_
  refine m_getA (kf := 9) 9 (a := 364) (by decide) rfl rfl q2124 rfl rfl dX4_readsRow_1 ?_
  refine x_aload_n dX4_readsRow_4 rfl ?_
  refine m_getI (kf := 8) 8 (by decide) rfl rfl q2123 rfl dX4_readsRow_5 ?_
  rw [e8]
  refine m_iald (n := 7) rfl rfl (by decide) (by omega) dX4_readsRow_8 ?_
  rw [e364]
  refine x_istore_n dX4_readsRow_9 (by decide) ?_
  refine x_aload_n dX4_readsRow_10 rfl ?_
  refine m_cv0 (c_isLetter (by omega) (by assumption)) fX4_isLetter q2319 (by decide) (Nat.le_of_ble_eq_true rfl) dX4_readsRow_11 ?_
  refine x_if_ne_b (t := 35) dX4_readsRow_14 (by decide) (fun c_14 => ?_) (fun c_14 => ?_)
  · skip
    first | rw [f1] | skip
    refine x_iload_n dX4_readsRow_35 rfl ?_
    refine x_iconst dX4_readsRow_36 ?_
    refine x_icmp_ne (t := 79) dX4_readsRow_37 (by decide) (by omega) (fun c_37 => ?_) (fun c_37 => ?_)
    · skip
      
      first
      | (exfalso; omega)
      | exact x_loc (by repeat first | exact trivial | refine ⟨Or.inr rfl, ?_⟩ | refine ⟨Or.inl rfl, ?_⟩) (hgo _ (Or.inl ⟨rfl, by omega, by omega⟩))
      | (rw [f13]; exact x_loc (by repeat first | exact trivial | refine ⟨Or.inr rfl, ?_⟩ | refine ⟨Or.inl rfl, ?_⟩) (hgo _ (Or.inr ⟨by unfold pRow; rw [if_neg (by omega)], by omega, by omega⟩)))
      | (rw [f3]; exact x_loc (by repeat first | exact trivial | refine ⟨Or.inr rfl, ?_⟩ | refine ⟨Or.inl rfl, ?_⟩) (hgo _ (Or.inr ⟨by unfold pRow; rw [if_pos (by omega), if_pos (by omega)]; dsimp only; rw [if_neg (by omega)], by omega, by omega⟩)))
      | (rw [f23]; exact x_loc (by repeat first | exact trivial | refine ⟨Or.inr rfl, ?_⟩ | refine ⟨Or.inl rfl, ?_⟩) (hgo _ (Or.inr ⟨by unfold pRow; rw [if_pos (by omega), if_pos (by omega)]; dsimp only; rw [if_pos (by omega)], by omega, by omega⟩)))
      | exact x_loc (by repeat first | exact trivial | refine ⟨Or.inr rfl, ?_⟩ | refine ⟨Or.inl rfl, ?_⟩) (hgo _ (Or.inr ⟨by unfold pRow; rw [if_neg (by omega)], by omega, by omega⟩))
    · skip
      refine x_aload_n dX4_readsRow_40 rfl ?_
      refine m_cv0 (c_isLetter (by omega) (by assumption)) fX4_isLetter q2319 (by decide) (Nat.le_of_ble_eq_true rfl) dX4_readsRow_41 ?_
      refine x_if_eq_b (t := 70) dX4_readsRow_44 (by decide) (fun c_44 => ?_) (fun c_44 => ?_)
      · skip
        first | rw [f2] | skip
        refine x_aload_n dX4_readsRow_70 rfl ?_
        refine x_iconst dX4_readsRow_71 ?_
        refine x_aload_n dX4_readsRow_72 rfl ?_
        refine m_getI (kf := 2) 2 (by decide) rfl rfl q2117 rfl dX4_readsRow_73 ?_
        rw [mP_p]
        refine m_cw2 (c_failsP (by omega)) fX4_fails q2302 (by decide) (Nat.le_of_ble_eq_true rfl) dX4_readsRow_76 ?_
        
        first
        | (exfalso; omega)
        | exact x_loc (by repeat first | exact trivial | refine ⟨Or.inr rfl, ?_⟩ | refine ⟨Or.inl rfl, ?_⟩) (hgo _ (Or.inl ⟨rfl, by omega, by omega⟩))
        | (rw [f13]; exact x_loc (by repeat first | exact trivial | refine ⟨Or.inr rfl, ?_⟩ | refine ⟨Or.inl rfl, ?_⟩) (hgo _ (Or.inr ⟨by unfold pRow; rw [if_neg (by omega)], by omega, by omega⟩)))
        | (rw [f3]; exact x_loc (by repeat first | exact trivial | refine ⟨Or.inr rfl, ?_⟩ | refine ⟨Or.inl rfl, ?_⟩) (hgo _ (Or.inr ⟨by unfold pRow; rw [if_pos (by omega), if_pos (by omega)]; dsimp only; rw [if_neg (by omega)], by omega, by omega⟩)))
        | (rw [f23]; exact x_loc (by repeat first | exact trivial | refine ⟨Or.inr rfl, ?_⟩ | refine ⟨Or.inl rfl, ?_⟩) (hgo _ (Or.inr ⟨by unfold pRow; rw [if_pos (by omega), if_pos (by omega)]; dsimp only; rw [if_pos (by omega)], by omega, by omega⟩)))
        | exact x_loc (by repeat first | exact trivial | refine ⟨Or.inr rfl, ?_⟩ | refine ⟨Or.inl rfl, ?_⟩) (hgo _ (Or.inr ⟨by unfold pRow; rw [if_neg (by omega)], by omega, by omega⟩))
      · skip
        refine x_aload_n dX4_readsRow_47 rfl ?_
        refine m_cv0 (c_signP (by omega) (by assumption)) fX4_sign q2279 (by decide) (Nat.le_of_ble_eq_true rfl) dX4_readsRow_48 ?_
        refine x_bipush dX4_readsRow_51 (by decide) ?_
        refine x_isub dX4_readsRow_53 ?_
        refine x_aload_n dX4_readsRow_54 rfl ?_
        refine m_getI (kf := 4) 4 (by decide) rfl rfl q2119 rfl dX4_readsRow_55 ?_
        rw [e4]
        refine x_icmp_lt (t := 70) dX4_readsRow_58 (by decide) (by omega) (fun c_58 => ?_) (fun c_58 => ?_)
        · skip
          first | rw [f2] | skip
          refine x_aload_n dX4_readsRow_70 rfl ?_
          refine x_iconst dX4_readsRow_71 ?_
          refine x_aload_n dX4_readsRow_72 rfl ?_
          refine m_getI (kf := 2) 2 (by decide) rfl rfl q2117 rfl dX4_readsRow_73 ?_
          rw [mP_p]
          refine m_cw2 (c_failsP (by omega)) fX4_fails q2302 (by decide) (Nat.le_of_ble_eq_true rfl) dX4_readsRow_76 ?_
          
          first
          | (exfalso; omega)
          | exact x_loc (by repeat first | exact trivial | refine ⟨Or.inr rfl, ?_⟩ | refine ⟨Or.inl rfl, ?_⟩) (hgo _ (Or.inl ⟨rfl, by omega, by omega⟩))
          | (rw [f13]; exact x_loc (by repeat first | exact trivial | refine ⟨Or.inr rfl, ?_⟩ | refine ⟨Or.inl rfl, ?_⟩) (hgo _ (Or.inr ⟨by unfold pRow; rw [if_neg (by omega)], by omega, by omega⟩)))
          | (rw [f3]; exact x_loc (by repeat first | exact trivial | refine ⟨Or.inr rfl, ?_⟩ | refine ⟨Or.inl rfl, ?_⟩) (hgo _ (Or.inr ⟨by unfold pRow; rw [if_pos (by omega), if_pos (by omega)]; dsimp only; rw [if_neg (by omega)], by omega, by omega⟩)))
          | (rw [f23]; exact x_loc (by repeat first | exact trivial | refine ⟨Or.inr rfl, ?_⟩ | refine ⟨Or.inl rfl, ?_⟩) (hgo _ (Or.inr ⟨by unfold pRow; rw [if_pos (by omega), if_pos (by omega)]; dsimp only; rw [if_pos (by omega)], by omega, by omega⟩)))
          | exact x_loc (by repeat first | exact trivial | refine ⟨Or.inr rfl, ?_⟩ | refine ⟨Or.inl rfl, ?_⟩) (hgo _ (Or.inr ⟨by unfold pRow; rw [if_neg (by omega)], by omega, by omega⟩))
        · skip
          refine x_aload_n dX4_readsRow_61 rfl ?_
          refine x_iconst dX4_readsRow_62 ?_
          refine x_aload_n dX4_readsRow_63 rfl ?_
          refine m_getI (kf := 2) 2 (by decide) rfl rfl q2117 rfl dX4_readsRow_64 ?_
          rw [mP_p]
          refine m_cw2 (c_failsP (by omega)) fX4_fails q2302 (by decide) (Nat.le_of_ble_eq_true rfl) dX4_readsRow_67 ?_
          first | rw [f2] | skip
          refine x_aload_n dX4_readsRow_70 rfl ?_
          refine x_iconst dX4_readsRow_71 ?_
          refine x_aload_n dX4_readsRow_72 rfl ?_
          refine m_getI (kf := 2) 2 (by decide) rfl rfl q2117 rfl dX4_readsRow_73 ?_
          rw [mP_p]
          refine m_cw2 (c_failsP (by omega)) fX4_fails q2302 (by decide) (Nat.le_of_ble_eq_true rfl) dX4_readsRow_76 ?_
          
          first
          | (exfalso; omega)
          | exact x_loc (by repeat first | exact trivial | refine ⟨Or.inr rfl, ?_⟩ | refine ⟨Or.inl rfl, ?_⟩) (hgo _ (Or.inl ⟨rfl, by omega, by omega⟩))
          | (rw [f13]; exact x_loc (by repeat first | exact trivial | refine ⟨Or.inr rfl, ?_⟩ | refine ⟨Or.inl rfl, ?_⟩) (hgo _ (Or.inr ⟨by unfold pRow; rw [if_neg (by omega)], by omega, by omega⟩)))
          | (rw [f3]; exact x_loc (by repeat first | exact trivial | refine ⟨Or.inr rfl, ?_⟩ | refine ⟨Or.inl rfl, ?_⟩) (hgo _ (Or.inr ⟨by unfold pRow; rw [if_pos (by omega), if_pos (by omega)]; dsimp only; rw [if_neg (by omega)], by omega, by omega⟩)))
          | (rw [f23]; exact x_loc (by repeat first | exact trivial | refine ⟨Or.inr rfl, ?_⟩ | refine ⟨Or.inl rfl, ?_⟩) (hgo _ (Or.inr ⟨by unfold pRow; rw [if_pos (by omega), if_pos (by omega)]; dsimp only; rw [if_pos (by omega)], by omega, by omega⟩)))
          | exact x_loc (by repeat first | exact trivial | refine ⟨Or.inr rfl, ?_⟩ | refine ⟨Or.inl rfl, ?_⟩) (hgo _ (Or.inr ⟨by unfold pRow; rw [if_neg (by omega)], by omega, by omega⟩))
  · skip
    refine x_aload_n dX4_readsRow_17 rfl ?_
    refine m_cv0 (c_signP (by omega) (by assumption)) fX4_sign q2279 (by decide) (Nat.le_of_ble_eq_true rfl) dX4_readsRow_18 ?_
    refine x_bipush dX4_readsRow_21 (by decide) ?_
    refine x_icmp_eq (t := 35) dX4_readsRow_23 (by decide) (by omega) (fun c_23 => ?_) (fun c_23 => ?_)
    · skip
      first | rw [f1] | skip
      refine x_iload_n dX4_readsRow_35 rfl ?_
      refine x_iconst dX4_readsRow_36 ?_
      refine x_icmp_ne (t := 79) dX4_readsRow_37 (by decide) (by omega) (fun c_37 => ?_) (fun c_37 => ?_)
      · skip
        
        first
        | (exfalso; omega)
        | exact x_loc (by repeat first | exact trivial | refine ⟨Or.inr rfl, ?_⟩ | refine ⟨Or.inl rfl, ?_⟩) (hgo _ (Or.inl ⟨rfl, by omega, by omega⟩))
        | (rw [f13]; exact x_loc (by repeat first | exact trivial | refine ⟨Or.inr rfl, ?_⟩ | refine ⟨Or.inl rfl, ?_⟩) (hgo _ (Or.inr ⟨by unfold pRow; rw [if_neg (by omega)], by omega, by omega⟩)))
        | (rw [f3]; exact x_loc (by repeat first | exact trivial | refine ⟨Or.inr rfl, ?_⟩ | refine ⟨Or.inl rfl, ?_⟩) (hgo _ (Or.inr ⟨by unfold pRow; rw [if_pos (by omega), if_pos (by omega)]; dsimp only; rw [if_neg (by omega)], by omega, by omega⟩)))
        | (rw [f23]; exact x_loc (by repeat first | exact trivial | refine ⟨Or.inr rfl, ?_⟩ | refine ⟨Or.inl rfl, ?_⟩) (hgo _ (Or.inr ⟨by unfold pRow; rw [if_pos (by omega), if_pos (by omega)]; dsimp only; rw [if_pos (by omega)], by omega, by omega⟩)))
        | exact x_loc (by repeat first | exact trivial | refine ⟨Or.inr rfl, ?_⟩ | refine ⟨Or.inl rfl, ?_⟩) (hgo _ (Or.inr ⟨by unfold pRow; rw [if_neg (by omega)], by omega, by omega⟩))
      · skip
        refine x_aload_n dX4_readsRow_40 rfl ?_
        refine m_cv0 (c_isLetter (by omega) (by assumption)) fX4_isLetter q2319 (by decide) (Nat.le_of_ble_eq_true rfl) dX4_readsRow_41 ?_
        refine x_if_eq_b (t := 70) dX4_readsRow_44 (by decide) (fun c_44 => ?_) (fun c_44 => ?_)
        · skip
          first | rw [f2] | skip
          refine x_aload_n dX4_readsRow_70 rfl ?_
          refine x_iconst dX4_readsRow_71 ?_
          refine x_aload_n dX4_readsRow_72 rfl ?_
          refine m_getI (kf := 2) 2 (by decide) rfl rfl q2117 rfl dX4_readsRow_73 ?_
          rw [mP_p]
          refine m_cw2 (c_failsP (by omega)) fX4_fails q2302 (by decide) (Nat.le_of_ble_eq_true rfl) dX4_readsRow_76 ?_
          
          first
          | (exfalso; omega)
          | exact x_loc (by repeat first | exact trivial | refine ⟨Or.inr rfl, ?_⟩ | refine ⟨Or.inl rfl, ?_⟩) (hgo _ (Or.inl ⟨rfl, by omega, by omega⟩))
          | (rw [f13]; exact x_loc (by repeat first | exact trivial | refine ⟨Or.inr rfl, ?_⟩ | refine ⟨Or.inl rfl, ?_⟩) (hgo _ (Or.inr ⟨by unfold pRow; rw [if_neg (by omega)], by omega, by omega⟩)))
          | (rw [f3]; exact x_loc (by repeat first | exact trivial | refine ⟨Or.inr rfl, ?_⟩ | refine ⟨Or.inl rfl, ?_⟩) (hgo _ (Or.inr ⟨by unfold pRow; rw [if_pos (by omega), if_pos (by omega)]; dsimp only; rw [if_neg (by omega)], by omega, by omega⟩)))
          | (rw [f23]; exact x_loc (by repeat first | exact trivial | refine ⟨Or.inr rfl, ?_⟩ | refine ⟨Or.inl rfl, ?_⟩) (hgo _ (Or.inr ⟨by unfold pRow; rw [if_pos (by omega), if_pos (by omega)]; dsimp only; rw [if_pos (by omega)], by omega, by omega⟩)))
          | exact x_loc (by repeat first | exact trivial | refine ⟨Or.inr rfl, ?_⟩ | refine ⟨Or.inl rfl, ?_⟩) (hgo _ (Or.inr ⟨by unfold pRow; rw [if_neg (by omega)], by omega, by omega⟩))
        · skip
          refine x_aload_n dX4_readsRow_47 rfl ?_
          refine m_cv0 (c_signP (by omega) (by assumption)) fX4_sign q2279 (by decide) (Nat.le_of_ble_eq_true rfl) dX4_readsRow_48 ?_
          refine x_bipush dX4_readsRow_51 (by decide) ?_
          refine x_isub dX4_readsRow_53 ?_
          refine x_aload_n dX4_readsRow_54 rfl ?_
          refine m_getI (kf := 4) 4 (by decide) rfl rfl q2119 rfl dX4_readsRow_55 ?_
          rw [e4]
          refine x_icmp_lt (t := 70) dX4_readsRow_58 (by decide) (by omega) (fun c_58 => ?_) (fun c_58 => ?_)
          · skip
            first | rw [f2] | skip
            refine x_aload_n dX4_readsRow_70 rfl ?_
            refine x_iconst dX4_readsRow_71 ?_
            refine x_aload_n dX4_readsRow_72 rfl ?_
            refine m_getI (kf := 2) 2 (by decide) rfl rfl q2117 rfl dX4_readsRow_73 ?_
            rw [mP_p]
            refine m_cw2 (c_failsP (by omega)) fX4_fails q2302 (by decide) (Nat.le_of_ble_eq_true rfl) dX4_readsRow_76 ?_
            
            first
            | (exfalso; omega)
            | exact x_loc (by repeat first | exact trivial | refine ⟨Or.inr rfl, ?_⟩ | refine ⟨Or.inl rfl, ?_⟩) (hgo _ (Or.inl ⟨rfl, by omega, by omega⟩))
            | (rw [f13]; exact x_loc (by repeat first | exact trivial | refine ⟨Or.inr rfl, ?_⟩ | refine ⟨Or.inl rfl, ?_⟩) (hgo _ (Or.inr ⟨by unfold pRow; rw [if_neg (by omega)], by omega, by omega⟩)))
            | (rw [f3]; exact x_loc (by repeat first | exact trivial | refine ⟨Or.inr rfl, ?_⟩ | refine ⟨Or.inl rfl, ?_⟩) (hgo _ (Or.inr ⟨by unfold pRow; rw [if_pos (by omega), if_pos (by omega)]; dsimp only; rw [if_neg (by omega)], by omega, by omega⟩)))
            | (rw [f23]; exact x_loc (by repeat first | exact trivial | refine ⟨Or.inr rfl, ?_⟩ | refine ⟨Or.inl rfl, ?_⟩) (hgo _ (Or.inr ⟨by unfold pRow; rw [if_pos (by omega), if_pos (by omega)]; dsimp only; rw [if_pos (by omega)], by omega, by omega⟩)))
            | exact x_loc (by repeat first | exact trivial | refine ⟨Or.inr rfl, ?_⟩ | refine ⟨Or.inl rfl, ?_⟩) (hgo _ (Or.inr ⟨by unfold pRow; rw [if_neg (by omega)], by omega, by omega⟩))
          · skip
            refine x_aload_n dX4_readsRow_61 rfl ?_
            refine x_iconst dX4_readsRow_62 ?_
            refine x_aload_n dX4_readsRow_63 rfl ?_
            refine m_getI (kf := 2) 2 (by decide) rfl rfl q2117 rfl dX4_readsRow_64 ?_
            rw [mP_p]
            refine m_cw2 (c_failsP (by omega)) fX4_fails q2302 (by decide) (Nat.le_of_ble_eq_true rfl) dX4_readsRow_67 ?_
            first | rw [f2] | skip
            refine x_aload_n dX4_readsRow_70 rfl ?_
            refine x_iconst dX4_readsRow_71 ?_
            refine x_aload_n dX4_readsRow_72 rfl ?_
            refine m_getI (kf := 2) 2 (by decide) rfl rfl q2117 rfl dX4_readsRow_73 ?_
            rw [mP_p]
            refine m_cw2 (c_failsP (by omega)) fX4_fails q2302 (by decide) (Nat.le_of_ble_eq_true rfl) dX4_readsRow_76 ?_
            
            first
            | (exfalso; omega)
            | exact x_loc (by repeat first | exact trivial | refine ⟨Or.inr rfl, ?_⟩ | refine ⟨Or.inl rfl, ?_⟩) (hgo _ (Or.inl ⟨rfl, by omega, by omega⟩))
            | (rw [f13]; exact x_loc (by repeat first | exact trivial | refine ⟨Or.inr rfl, ?_⟩ | refine ⟨Or.inl rfl, ?_⟩) (hgo _ (Or.inr ⟨by unfold pRow; rw [if_neg (by omega)], by omega, by omega⟩)))
            | (rw [f3]; exact x_loc (by repeat first | exact trivial | refine ⟨Or.inr rfl, ?_⟩ | refine ⟨Or.inl rfl, ?_⟩) (hgo _ (Or.inr ⟨by unfold pRow; rw [if_pos (by omega), if_pos (by omega)]; dsimp only; rw [if_neg (by omega)], by omega, by omega⟩)))
            | (rw [f23]; exact x_loc (by repeat first | exact trivial | refine ⟨Or.inr rfl, ?_⟩ | refine ⟨Or.inl rfl, ?_⟩) (hgo _ (Or.inr ⟨by unfold pRow; rw [if_pos (by omega), if_pos (by omega)]; dsimp only; rw [if_pos (by omega)], by omega, by omega⟩)))
            | exact x_loc (by repeat first | exact trivial | refine ⟨Or.inr rfl, ?_⟩ | refine ⟨Or.inl rfl, ?_⟩) (hgo _ (Or.inr ⟨by unfold pRow; rw [if_neg (by omega)], by omega, by omega⟩))
    · skip
      refine x_aload_n dX4_readsRow_26 rfl ?_
      refine x_iconst dX4_readsRow_27 ?_
      refine x_aload_n dX4_readsRow_28 rfl ?_
      refine m_getI (kf := 2) 2 (by decide) rfl rfl q2117 rfl dX4_readsRow_29 ?_
      rw [mP_p]
      refine m_cw2 (c_failsP (by omega)) fX4_fails q2302 (by decide) (Nat.le_of_ble_eq_true rfl) dX4_readsRow_32 ?_
      first | rw [f1] | skip
      refine x_iload_n dX4_readsRow_35 rfl ?_
      refine x_iconst dX4_readsRow_36 ?_
      refine x_icmp_ne (t := 79) dX4_readsRow_37 (by decide) (by omega) (fun c_37 => ?_) (fun c_37 => ?_)
      · skip
        
        first
        | (exfalso; omega)
        | exact x_loc (by repeat first | exact trivial | refine ⟨Or.inr rfl, ?_⟩ | refine ⟨Or.inl rfl, ?_⟩) (hgo _ (Or.inl ⟨rfl, by omega, by omega⟩))
        | (rw [f13]; exact x_loc (by repeat first | exact trivial | refine ⟨Or.inr rfl, ?_⟩ | refine ⟨Or.inl rfl, ?_⟩) (hgo _ (Or.inr ⟨by unfold pRow; rw [if_neg (by omega)], by omega, by omega⟩)))
        | (rw [f3]; exact x_loc (by repeat first | exact trivial | refine ⟨Or.inr rfl, ?_⟩ | refine ⟨Or.inl rfl, ?_⟩) (hgo _ (Or.inr ⟨by unfold pRow; rw [if_pos (by omega), if_pos (by omega)]; dsimp only; rw [if_neg (by omega)], by omega, by omega⟩)))
        | (rw [f23]; exact x_loc (by repeat first | exact trivial | refine ⟨Or.inr rfl, ?_⟩ | refine ⟨Or.inl rfl, ?_⟩) (hgo _ (Or.inr ⟨by unfold pRow; rw [if_pos (by omega), if_pos (by omega)]; dsimp only; rw [if_pos (by omega)], by omega, by omega⟩)))
        | exact x_loc (by repeat first | exact trivial | refine ⟨Or.inr rfl, ?_⟩ | refine ⟨Or.inl rfl, ?_⟩) (hgo _ (Or.inr ⟨by unfold pRow; rw [if_neg (by omega)], by omega, by omega⟩))
      · skip
        refine x_aload_n dX4_readsRow_40 rfl ?_
        refine m_cv0 (c_isLetter (by omega) (by assumption)) fX4_isLetter q2319 (by decide) (Nat.le_of_ble_eq_true rfl) dX4_readsRow_41 ?_
        refine x_if_eq_b (t := 70) dX4_readsRow_44 (by decide) (fun c_44 => ?_) (fun c_44 => ?_)
        · skip
          first | rw [f2] | skip
          refine x_aload_n dX4_readsRow_70 rfl ?_
          refine x_iconst dX4_readsRow_71 ?_
          refine x_aload_n dX4_readsRow_72 rfl ?_
          refine m_getI (kf := 2) 2 (by decide) rfl rfl q2117 rfl dX4_readsRow_73 ?_
          rw [mP_p]
          refine m_cw2 (c_failsP (by omega)) fX4_fails q2302 (by decide) (Nat.le_of_ble_eq_true rfl) dX4_readsRow_76 ?_
          
          first
          | (exfalso; omega)
          | exact x_loc (by repeat first | exact trivial | refine ⟨Or.inr rfl, ?_⟩ | refine ⟨Or.inl rfl, ?_⟩) (hgo _ (Or.inl ⟨rfl, by omega, by omega⟩))
          | (rw [f13]; exact x_loc (by repeat first | exact trivial | refine ⟨Or.inr rfl, ?_⟩ | refine ⟨Or.inl rfl, ?_⟩) (hgo _ (Or.inr ⟨by unfold pRow; rw [if_neg (by omega)], by omega, by omega⟩)))
          | (rw [f3]; exact x_loc (by repeat first | exact trivial | refine ⟨Or.inr rfl, ?_⟩ | refine ⟨Or.inl rfl, ?_⟩) (hgo _ (Or.inr ⟨by unfold pRow; rw [if_pos (by omega), if_pos (by omega)]; dsimp only; rw [if_neg (by omega)], by omega, by omega⟩)))
          | (rw [f23]; exact x_loc (by repeat first | exact trivial | refine ⟨Or.inr rfl, ?_⟩ | refine ⟨Or.inl rfl, ?_⟩) (hgo _ (Or.inr ⟨by unfold pRow; rw [if_pos (by omega), if_pos (by omega)]; dsimp only; rw [if_pos (by omega)], by omega, by omega⟩)))
          | exact x_loc (by repeat first | exact trivial | refine ⟨Or.inr rfl, ?_⟩ | refine ⟨Or.inl rfl, ?_⟩) (hgo _ (Or.inr ⟨by unfold pRow; rw [if_neg (by omega)], by omega, by omega⟩))
        · skip
          refine x_aload_n dX4_readsRow_47 rfl ?_
          refine m_cv0 (c_signP (by omega) (by assumption)) fX4_sign q2279 (by decide) (Nat.le_of_ble_eq_true rfl) dX4_readsRow_48 ?_
          refine x_bipush dX4_readsRow_51 (by decide) ?_
          refine x_isub dX4_readsRow_53 ?_
          refine x_aload_n dX4_readsRow_54 rfl ?_
          refine m_getI (kf := 4) 4 (by decide) rfl rfl q2119 rfl dX4_readsRow_55 ?_
          rw [e4]
          refine x_icmp_lt (t := 70) dX4_readsRow_58 (by decide) (by omega) (fun c_58 => ?_) (fun c_58 => ?_)
          · skip
            first | rw [f2] | skip
            refine x_aload_n dX4_readsRow_70 rfl ?_
            refine x_iconst dX4_readsRow_71 ?_
            refine x_aload_n dX4_readsRow_72 rfl ?_
            refine m_getI (kf := 2) 2 (by decide) rfl rfl q2117 rfl dX4_readsRow_73 ?_
            rw [mP_p]
            refine m_cw2 (c_failsP (by omega)) fX4_fails q2302 (by decide) (Nat.le_of_ble_eq_true rfl) dX4_readsRow_76 ?_
            
            first
            | (exfalso; omega)
            | exact x_loc (by repeat first | exact trivial | refine ⟨Or.inr rfl, ?_⟩ | refine ⟨Or.inl rfl, ?_⟩) (hgo _ (Or.inl ⟨rfl, by omega, by omega⟩))
            | (rw [f13]; exact x_loc (by repeat first | exact trivial | refine ⟨Or.inr rfl, ?_⟩ | refine ⟨Or.inl rfl, ?_⟩) (hgo _ (Or.inr ⟨by unfold pRow; rw [if_neg (by omega)], by omega, by omega⟩)))
            | (rw [f3]; exact x_loc (by repeat first | exact trivial | refine ⟨Or.inr rfl, ?_⟩ | refine ⟨Or.inl rfl, ?_⟩) (hgo _ (Or.inr ⟨by unfold pRow; rw [if_pos (by omega), if_pos (by omega)]; dsimp only; rw [if_neg (by omega)], by omega, by omega⟩)))
            | (rw [f23]; exact x_loc (by repeat first | exact trivial | refine ⟨Or.inr rfl, ?_⟩ | refine ⟨Or.inl rfl, ?_⟩) (hgo _ (Or.inr ⟨by unfold pRow; rw [if_pos (by omega), if_pos (by omega)]; dsimp only; rw [if_pos (by omega)], by omega, by omega⟩)))
            | exact x_loc (by repeat first | exact trivial | refine ⟨Or.inr rfl, ?_⟩ | refine ⟨Or.inl rfl, ?_⟩) (hgo _ (Or.inr ⟨by unfold pRow; rw [if_neg (by omega)], by omega, by omega⟩))
          · skip
            refine x_aload_n dX4_readsRow_61 rfl ?_
            refine x_iconst dX4_readsRow_62 ?_
            refine x_aload_n dX4_readsRow_63 rfl ?_
            refine m_getI (kf := 2) 2 (by decide) rfl rfl q2117 rfl dX4_readsRow_64 ?_
            rw [mP_p]
            refine m_cw2 (c_failsP (by omega)) fX4_fails q2302 (by decide) (Nat.le_of_ble_eq_true rfl) dX4_readsRow_67 ?_
            first | rw [f2] | skip
            refine x_aload_n dX4_readsRow_70 rfl ?_
            refine x_iconst dX4_readsRow_71 ?_
            refine x_aload_n dX4_readsRow_72 rfl ?_
            refine m_getI (kf := 2) 2 (by decide) rfl rfl q2117 rfl dX4_readsRow_73 ?_
            rw [mP_p]
            refine m_cw2 (c_failsP (by omega)) fX4_fails q2302 (by decide) (Nat.le_of_ble_eq_true rfl) dX4_readsRow_76 ?_
            
            first
            | (exfalso; omega)
            | exact x_loc (by repeat first | exact trivial | refine ⟨Or.inr rfl, ?_⟩ | refine ⟨Or.inl rfl, ?_⟩) (hgo _ (Or.inl ⟨rfl, by omega, by omega⟩))
            | (rw [f13]; exact x_loc (by repeat first | exact trivial | refine ⟨Or.inr rfl, ?_⟩ | refine ⟨Or.inl rfl, ?_⟩) (hgo _ (Or.inr ⟨by unfold pRow; rw [if_neg (by omega)], by omega, by omega⟩)))
            | (rw [f3]; exact x_loc (by repeat first | exact trivial | refine ⟨Or.inr rfl, ?_⟩ | refine ⟨Or.inl rfl, ?_⟩) (hgo _ (Or.inr ⟨by unfold pRow; rw [if_pos (by omega), if_pos (by omega)]; dsimp only; rw [if_neg (by omega)], by omega, by omega⟩)))
            | (rw [f23]; exact x_loc (by repeat first | exact trivial | refine ⟨Or.inr rfl, ?_⟩ | refine ⟨Or.inl rfl, ?_⟩) (hgo _ (Or.inr ⟨by unfold pRow; rw [if_pos (by omega), if_pos (by omega)]; dsimp only; rw [if_pos (by omega)], by omega, by omega⟩)))
            | exact x_loc (by repeat first | exact trivial | refine ⟨Or.inr rfl, ?_⟩ | refine ⟨Or.inl rfl, ?_⟩) (hgo _ (Or.inr ⟨by unfold pRow; rw [if_neg (by omega)], by omega, by omega⟩))
