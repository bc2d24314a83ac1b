set_option maxRecDepth 100000
/-! THE MODEL's methods, 20: forms are read -/
theorem numF_in {I : Nat → Int → Int} (h2 : 0 ≤ I 360 1 ∧ I 360 1 ≤ 300) {p : Int} (h : 0 ≤ p ∧ p ≤ 300) : -1 ≤ numF (mSg I) p (-1) ∧ numF (mSg I) p (-1) < 100000 := by
  have h3 := blk_le h2 h.1
  unfold numF flt
  split
  · split
    · rw [if_pos rfl]; omega
    · omega
  · rw [if_pos rfl]; omega
theorem numV_31 {T : Int → Int} {p : Int} (h0 : 0 ≤ blk T p) (h : numF T p (-1) = -1) : numV T p ≤ 31 := by
  unfold numF flt at h
  unfold numV
  split at h
  · rename_i h1
    rw [if_pos h1]
    split at h
    · rw [if_pos rfl] at h; omega
    · omega
  · rw [if_pos rfl] at h; omega
/-- k numbers more -/
def rdN (T : Int → Int) : Nat → Int → List Int → Int × Int × List Int
  | 0, p, l => (-1, p, l)
  | k + 1, p, l => if numF T p (-1) = -1 then rdN T k (numP T p) (l ++ [numV T p]) else (numF T p (-1), p, l)
/-- a form is read behind the forms fs: the fault, the place behind it, its rows -/
def pForm (T : Int → Int) (fs : List (List Int)) (p : Int) : Int × Int × List Int :=
  if fs.length = 20 then ((if numF T p (-1) = -1 then 8 * p + 3 else numF T p (-1)), p, [])
  else if (rdN T 5 p []).1 = -1 then (if T (blk T (rdN T 5 p []).2.1) = 59 then (if (rdN T 5 p []).2.2 ∈ fs then (8 * p + 4, p, []) else (-1, blk T (rdN T 5 p []).2.1 + 1, (rdN T 5 p []).2.2)) else (8 * blk T (rdN T 5 p []).2.1 + 1, p, []))
  else rdN T 5 p []
def encF (g : Int → Int) (fs : List (List Int)) : Prop := ∀ i : Nat, i < fs.length → (fs.getD i []).length = 5 ∧ ∀ y : Nat, y < 5 → g (5 * (i : Int) + y) = (fs.getD i []).getD y 0 ∧ 0 ≤ (fs.getD i []).getD y 0 ∧ (fs.getD i []).getD y 0 ≤ 31
def gOK (g : Int → Int) : Prop := ∀ j, 0 ≤ j → j < 105 → 0 ≤ g j ∧ g j ≤ 1000
def RfPost (I : Nat → Int → Int) (fs : List (List Int)) (p : Int) (J : Nat → Int → Int) : Prop := ∃ p' f' g', J = mW I p' f' ((fs.length : Int) + 1) g' ∧ gOK g' ∧ (-1 ≤ f' ∧ f' < 100000) ∧ (0 ≤ p' ∧ p' ≤ 301) ∧ f' = (pForm (mSg I) fs p).1 ∧ (f' = -1 → p' = (pForm (mSg I) fs p).2.1 ∧ encF g' (fs ++ [(pForm (mSg I) fs p).2.2]))
theorem upA_g {g : Int → Int} (i v : Int) : (fun j => if j = i then v else g j) = upA g i v := rfl
theorem gOK.up {g : Int → Int} (h : gOK g) {i v : Int} (hv : 0 ≤ v ∧ v ≤ 1000) : gOK (upA g i v) := fun j h1 h2 => by
  simp only [upA]
  split
  · exact hv
  · exact h j h1 h2
theorem encF.snoc {g : Int → Int} {fs : List (List Int)} {l : List Int} (h : encF g fs) (hl : l.length = 5) (hg : ∀ y : Nat, y < 5 → g (5 * (fs.length : Int) + y) = l.getD y 0 ∧ 0 ≤ l.getD y 0 ∧ l.getD y 0 ≤ 31) : encF g (fs ++ [l]) := by
  intro i hi
  simp only [List.length_append, List.length_singleton] at hi
  by_cases e : i < fs.length
  · have : (fs ++ [l]).getD i [] = fs.getD i [] := by simp [List.getD_eq_getElem?_getD, List.getElem?_append_left e]
    rw [this]
    exact h i e
  · have e2 : i = fs.length := by omega
    subst e2
    have : (fs ++ [l]).getD fs.length [] = l := by simp
    rw [this]
    exact ⟨hl, hg⟩
theorem dupl_iff {g : Int → Int} {fs : List (List Int)} {l : List Int} (h : encF g fs) (hl : l.length = 5) (hg : ∀ y : Nat, y < 5 → g (5 * (fs.length : Int) + y) = l.getD y 0 ∧ 0 ≤ l.getD y 0 ∧ l.getD y 0 ≤ 31) : dupl fs.length g ↔ l ∈ fs := by
  constructor
  · rintro ⟨f, h1, h2, h3⟩
    obtain ⟨i, rfl⟩ : ∃ i : Nat, f = i := ⟨f.toNat, by omega⟩
    have hi : i < fs.length := by omega
    obtain ⟨a1, a2⟩ := h i hi
    have : l = fs.getD i [] := by
      apply List.ext_getElem?
      intro y
      by_cases hy : y < 5
      · have b1 := (hg y hy).1
        have b2 := (a2 y hy).1
        have b3 := h3 y (by omega) (by omega)
        rw [List.getElem?_eq_getElem (by omega), List.getElem?_eq_getElem (by omega)]
        have c1 : l.getD y 0 = l[y] := by simp [show y < l.length by omega]
        have c2 : (fs.getD i []).getD y 0 = (fs.getD i [])[y] := by rw [List.getD_eq_getElem?_getD, List.getElem?_eq_getElem (by omega)]; rfl
        rw [← c1, ← c2, ← b1, ← b2, b3]
      · rw [List.getElem?_eq_none (by omega), List.getElem?_eq_none (by omega)]
    rw [this, List.getD_eq_getElem?_getD, List.getElem?_eq_getElem hi]
    exact List.getElem_mem hi
  · intro hm
    obtain ⟨i, hi, he⟩ := List.getElem_of_mem hm
    refine ⟨i, by omega, by omega, fun y y1 y2 => ?_⟩
    obtain ⟨Y, rfl⟩ : ∃ Y : Nat, y = Y := ⟨y.toNat, by omega⟩
    obtain ⟨a1, a2⟩ := h i hi
    have : fs.getD i [] = l := by rw [List.getD_eq_getElem?_getD, List.getElem?_eq_getElem hi, he]; rfl
    rw [(a2 Y (by omega)).1, (hg Y (by omega)).1, this]
/-- the end of readsForm, at a fault -/
theorem c_readsForm_bad {I : Nat → Int → Int} {G : rr_G} {nx : Nat} {F : (Nat → Int → Int) → Prop} {p f n b : Int} {g : Int → Int} (hf : -1 < f ∧ f < 100000) (hn : 0 ≤ n ∧ n ≤ 20) (hF : F (mW I p f (n + 1) g)) : me G yX4_readsForm cX4_readsForm 3 none 3 nx F 57 [some (vR (some 360)), some (vI b), none] [] (mW I p f n g) := by
  have hw := mW_at I p f n g
  have hR : mC yX4_isRight cX4_isRight 1 (some FieldType.boolean) 0 [vR (some 360)] (mW I p f n g) (some (vI (bi (f = -1)))) (mW I p f n g) := mW_C (c_isRightP (by omega))
  refine x_aload_n dX4_readsForm_57 rfl ?_
  refine m_cv0 (hR) fX4_isRight q2283 (by decide) (Nat.le_of_ble_eq_true rfl) dX4_readsForm_58 ?_
  refine x_if_eq_b (t := 96) dX4_readsForm_61 (by decide) (fun c_61 => ?_) (fun c_61 => ?_)
  · skip
    refine x_aload_n dX4_readsForm_96 rfl ?_
    refine m_cv0 (hR) fX4_isRight q2283 (by decide) (Nat.le_of_ble_eq_true rfl) dX4_readsForm_97 ?_
    refine x_if_eq_b (t := 116) dX4_readsForm_100 (by decide) (fun c_100 => ?_) (fun c_100 => ?_)
    · skip
      refine x_aload_n dX4_readsForm_116 rfl ?_
      refine x_dup dX4_readsForm_117 rfl ?_
      refine m_getI (kf := 5) 5 (by decide) rfl rfl q2120 rfl dX4_readsForm_118 ?_
      rw [hw.1]
      refine x_iconst dX4_readsForm_121 ?_
      refine x_iadd dX4_readsForm_122 ?_
      refine m_putI (kf := 5) 5 (by decide) rfl rfl q2120 rfl rfl (rr_nar_i _) dX4_readsForm_123 ?_
      refine x_vret rfl dX4_readsForm_126 (Nat.le_refl _) (Nat.le_refl _) ?_
      refine ⟨rfl, rfl, _, rfl, ?_⟩
      rw [mW_k]
      exact hF
    · skip
      exfalso; omega
  · skip
    exfalso; omega
theorem c_readsForm_bad7 {I : Nat → Int → Int} {G : rr_G} {nx : Nat} {F : (Nat → Int → Int) → Prop} {p f n b z : Int} {g : Int → Int} (hf : -1 < f ∧ f < 100000) (hz : 0 ≤ z ∧ z < 10) (hn : 0 ≤ n ∧ n ≤ 20) (hF : F (mW I p f (n + 1) g)) : me G yX4_readsForm cX4_readsForm 3 none 3 nx F 7 [some (vR (some 360)), some (vI b), some (vI z)] [] (mW I p f n g) := by
  have hR : mC yX4_isRight cX4_isRight 1 (some FieldType.boolean) 0 [vR (some 360)] (mW I p f n g) (some (vI (bi (f = -1)))) (mW I p f n g) := mW_C (c_isRightP (by omega))
  have hend : me G yX4_readsForm cX4_readsForm 3 none 3 nx F 57 [some (vR (some 360)), some (vI b), none] [] (mW I p f n g) := c_readsForm_bad hf hn hF
  refine x_iload_n dX4_readsForm_7 rfl ?_
  refine x_iconst dX4_readsForm_8 ?_
  refine x_icmp_ge (t := 57) dX4_readsForm_9 (by decide) (by omega) (fun c_9 => ?_) (fun c_9 => ?_)
  · skip
    exact x_loc (by repeat first | exact trivial | refine ⟨Or.inr rfl, ?_⟩ | refine ⟨Or.inl rfl, ?_⟩) hend
  · skip
    refine x_aload_n dX4_readsForm_12 rfl ?_
    refine m_cv0 (hR) fX4_isRight q2283 (by decide) (Nat.le_of_ble_eq_true rfl) dX4_readsForm_13 ?_
    refine x_if_eq_b (t := 57) dX4_readsForm_16 (by decide) (fun c_16 => ?_) (fun c_16 => ?_)
    · skip
      exact x_loc (by repeat first | exact trivial | refine ⟨Or.inr rfl, ?_⟩ | refine ⟨Or.inl rfl, ?_⟩) hend
    · skip
      exfalso; omega
theorem c_readsForm {I : Nat → Int → Int} {fs : List (List Int)} {p : Int} {g : Int → Int} (h1 : 0 ≤ I 360 1 ∧ I 360 1 ≤ 300) (hp : 0 ≤ p ∧ p ≤ 300) (hn : fs.length ≤ 20) (hg : gOK g) (he : encF g fs) : mE yX4_readsForm cX4_readsForm 3 none 3 [vR (some 360)] (mW I p (-1) fs.length g) (RfPost I fs p) := by
  refine mE.of (by decide) rfl (Nat.le_of_ble_eq_true rfl) (fun G nx => ?_)
  refine x_ls (ls2 := [some (vR (some 360)), none, none]) rfl ?_
  generalize hF : RfPost I fs p = F
  refine x_aload_n dX4_readsForm_0 rfl ?_
  refine m_getI (kf := 2) 2 (by decide) rfl rfl q2117 rfl dX4_readsForm_1 ?_
  rw [(mW_at I p (-1) fs.length g).2.1]
  refine x_istore_n dX4_readsForm_4 (by decide) ?_
  refine x_iconst dX4_readsForm_5 ?_
  refine x_istore_n dX4_readsForm_6 (by decide) ?_
  refine x_loc (ls2 := [some (vR (some 360)), some (vI p), some (vI (((([] : List Int), p, g).1).length : Int))]) (by repeat first | exact trivial | refine ⟨Or.inr rfl, ?_⟩ | refine ⟨Or.inl rfl, ?_⟩) ?_
  refine rr_ind (W := fun q : List Int × Int × (Int → Int) => me G yX4_readsForm cX4_readsForm 3 none 3 nx _ 7 [some (vR (some 360)), some (vI p), some (vI (q.1.length : Int))] [] (mW I q.2.1 (-1) fs.length q.2.2)) (fun q => 5 - q.1.length) (fun q => (q.1.length ≤ 5 ∧ (fs.length = 20 → q.1 = [] ∧ q.2.1 = p)) ∧ (0 ≤ q.2.1 ∧ q.2.1 ≤ 300) ∧ gOK q.2.2 ∧ encF q.2.2 fs ∧ rdN (mSg I) 5 p [] = rdN (mSg I) (5 - q.1.length) q.2.1 q.1 ∧ ∀ y : Nat, y < q.1.length → q.2.2 (5 * (fs.length : Int) + y) = q.1.getD y 0 ∧ 0 ≤ q.1.getD y 0 ∧ q.1.getD y 0 ≤ 31) ?_ ([], p, g) ⟨⟨by simp, fun _ => ⟨rfl, rfl⟩⟩, hp, hg, he, rfl, fun y hy => by simp at hy⟩
  clear hg he
  rintro ⟨l, q, g⟩ ⟨⟨hl, h20⟩, hq, hg, he, hrd, hgl⟩ ih
  simp only at hl h20 hq hg he hrd hgl ih
  dsimp only
  have hw := mW_at I q (-1) fs.length g
  have hR : mC yX4_isRight cX4_isRight 1 (some FieldType.boolean) 0 [vR (some 360)] (mW I q (-1) fs.length g) (some (vI (bi ((-1 : Int) = -1)))) (mW I q (-1) fs.length g) := mW_C (c_isRightP (by omega))
  refine x_iload_n dX4_readsForm_7 rfl ?_
  refine x_iconst dX4_readsForm_8 ?_
  refine x_icmp_ge (t := 57) dX4_readsForm_9 (by decide) (by omega) (fun c_9 => ?_) (fun c_9 => ?_)
  · skip
    have hl5 : l.length = 5 := by omega
    have hne : fs.length ≠ 20 := fun z => by have := (h20 z).1; rw [this] at hl5; simp at hl5
    have hrd5 : rdN (mSg I) 5 p [] = (-1, q, l) := by rw [hrd, hl5]; rfl
    rw [hl5] at hgl
    have hb := blk_le h1 hq.1
    have hsb := mSg_in I (blk (mSg I) q)
    have hB : mC yX4_blanks cX4_blanks 1 none 1 [vR (some 360)] (mW I q (-1) fs.length g) none (mW I (blk (mSg I) q) (-1) fs.length g) := mW_C (by
      have := c_blanks (I := mW I q (-1) fs.length g) (p := q) (f := -1) (by omega) (by rw [hw.2.2.2.1]; exact h1)
      rw [mSg_mW] at this
      exact this)
    have hS : mC yX4_sign cX4_sign 1 (some FieldType.int) 0 [vR (some 360)] (mW I (blk (mSg I) q) (-1) fs.length g) (some (vI (mSg I (blk (mSg I) q)))) (mW I (blk (mSg I) q) (-1) fs.length g) := mW_C (by
      have := c_signP (I := mW I (blk (mSg I) q) (-1) fs.length g) (p := blk (mSg I) q) (f := -1) (by omega) (by rw [(mW_at I (blk (mSg I) q) (-1) fs.length g).2.2.2.1]; exact h1)
      rw [mSg_mW] at this
      exact this)
    have hpf : pForm (mSg I) fs p = (if mSg I (blk (mSg I) q) = 59 then (if l ∈ fs then (8 * p + 4, p, []) else (-1, blk (mSg I) q + 1, l)) else (8 * blk (mSg I) q + 1, p, [])) := by
      unfold pForm
      rw [if_neg hne, hrd5, if_pos rfl]
    have hwb := mW_at I (blk (mSg I) q) (-1) fs.length g
    refine x_aload_n dX4_readsForm_57 rfl ?_
    refine m_cv0 (hR) fX4_isRight q2283 (by decide) (Nat.le_of_ble_eq_true rfl) dX4_readsForm_58 ?_
    refine x_if_eq_b (t := 96) dX4_readsForm_61 (by decide) (fun c_61 => ?_) (fun c_61 => ?_)
    · skip
      exact absurd rfl c_61
    · skip
      refine x_aload_n dX4_readsForm_64 rfl ?_
      refine m_cw0 (hB) fX4_blanks q2275 (by decide) (Nat.le_of_ble_eq_true rfl) dX4_readsForm_65 ?_
      refine x_aload_n dX4_readsForm_68 rfl ?_
      refine m_cv0 (hS) fX4_sign q2279 (by decide) (Nat.le_of_ble_eq_true rfl) dX4_readsForm_69 ?_
      refine x_bipush dX4_readsForm_72 (by decide) ?_
      refine x_icmp_eq (t := 86) dX4_readsForm_74 (by decide) (by omega) (fun c_74 => ?_) (fun c_74 => ?_)
      · skip
        have hs300 : blk (mSg I) q < 300 := by
          rcases Int.lt_or_le (blk (mSg I) q) 300 with z | z
          · exact z
          · rw [mSg_no h1 z] at c_74; omega
        have hdu := dupl_iff he hl5 hgl
        have hR2 : mC yX4_isRight cX4_isRight 1 (some FieldType.boolean) 0 [vR (some 360)] (mW I (blk (mSg I) q + 1) (-1) fs.length g) (some (vI (bi ((-1 : Int) = -1)))) (mW I (blk (mSg I) q + 1) (-1) fs.length g) := mW_C (c_isRightP (by omega))
        have hT := c_isTold (I := I) (p := blk (mSg I) q + 1) (f := -1) (k := fs.length) (g := g) (by omega) hg
        have hwb3 := mW_at I (blk (mSg I) q + 1) (-1) fs.length g
        refine x_aload_n dX4_readsForm_86 rfl ?_
        refine x_dup dX4_readsForm_87 rfl ?_
        refine m_getI (kf := 2) 2 (by decide) rfl rfl q2117 rfl dX4_readsForm_88 ?_
        rw [hwb.2.1]
        refine x_iconst dX4_readsForm_91 ?_
        refine x_iadd dX4_readsForm_92 ?_
        refine m_putI (kf := 2) 2 (by decide) rfl rfl q2117 rfl rfl (rr_nar_i _) dX4_readsForm_93 ?_
        rw [mW_p]
        refine x_aload_n dX4_readsForm_96 rfl ?_
        refine m_cv0 (hR2) fX4_isRight q2283 (by decide) (Nat.le_of_ble_eq_true rfl) dX4_readsForm_97 ?_
        refine x_if_eq_b (t := 116) dX4_readsForm_100 (by decide) (fun c_100 => ?_) (fun c_100 => ?_)
        · skip
          exact absurd rfl c_100
        · skip
          refine x_aload_n dX4_readsForm_103 rfl ?_
          refine m_cv0 (hT) fX4_isTold q2307 (by decide) (Nat.le_of_ble_eq_true rfl) dX4_readsForm_104 ?_
          refine x_if_eq_b (t := 116) dX4_readsForm_107 (by decide) (fun c_107 => ?_) (fun c_107 => ?_)
          · skip
            refine x_aload_n dX4_readsForm_116 rfl ?_
            refine x_dup dX4_readsForm_117 rfl ?_
            refine m_getI (kf := 5) 5 (by decide) rfl rfl q2120 rfl dX4_readsForm_118 ?_
            rw [hwb3.1]
            refine x_iconst dX4_readsForm_121 ?_
            refine x_iadd dX4_readsForm_122 ?_
            refine m_putI (kf := 5) 5 (by decide) rfl rfl q2120 rfl rfl (rr_nar_i _) dX4_readsForm_123 ?_
            refine x_vret rfl dX4_readsForm_126 (Nat.le_refl _) (Nat.le_refl _) ?_
            refine ⟨rfl, rfl, _, rfl, ?_⟩
            rw [mW_k, ← hF]
            have hnd : l ∉ fs := fun z => c_107 (hdu.mpr z)
            refine ⟨_, _, _, rfl, hg, by omega, by omega, by rw [hpf, if_pos c_74, if_neg hnd], fun _ => ?_⟩
            rw [hpf, if_pos c_74, if_neg hnd]
            exact ⟨rfl, he.snoc hl5 hgl⟩
          · skip
            refine x_aload_n dX4_readsForm_110 rfl ?_
            refine x_iconst dX4_readsForm_111 ?_
            refine x_iload_n dX4_readsForm_112 rfl ?_
            refine m_cw2 (mW_C (c_failsP (by omega))) fX4_fails q2302 (by decide) (Nat.le_of_ble_eq_true rfl) dX4_readsForm_113 ?_
            have hfl : flt (-1) 4 p = 8 * p + 4 := if_pos rfl
            rw [hfl]
            have hwb4 := mW_at I (blk (mSg I) q + 1) (8 * p + 4) fs.length g
            refine x_aload_n dX4_readsForm_116 rfl ?_
            refine x_dup dX4_readsForm_117 rfl ?_
            refine m_getI (kf := 5) 5 (by decide) rfl rfl q2120 rfl dX4_readsForm_118 ?_
            rw [hwb4.1]
            refine x_iconst dX4_readsForm_121 ?_
            refine x_iadd dX4_readsForm_122 ?_
            refine m_putI (kf := 5) 5 (by decide) rfl rfl q2120 rfl rfl (rr_nar_i _) dX4_readsForm_123 ?_
            refine x_vret rfl dX4_readsForm_126 (Nat.le_refl _) (Nat.le_refl _) ?_
            refine ⟨rfl, rfl, _, rfl, ?_⟩
            rw [mW_k, ← hF]
            refine ⟨_, _, _, rfl, hg, by omega, by omega, by rw [hpf, if_pos c_74, if_pos (hdu.mp c_107)], fun z => by omega⟩
      · skip
        refine x_aload_n dX4_readsForm_77 rfl ?_
        refine x_iconst dX4_readsForm_78 ?_
        refine x_aload_n dX4_readsForm_79 rfl ?_
        refine m_getI (kf := 2) 2 (by decide) rfl rfl q2117 rfl dX4_readsForm_80 ?_
        rw [hwb.2.1]
        refine m_cw2 (mW_C (c_failsP (by omega))) fX4_fails q2302 (by decide) (Nat.le_of_ble_eq_true rfl) dX4_readsForm_83 ?_
        have hfl : flt (-1) 1 (blk (mSg I) q) = 8 * blk (mSg I) q + 1 := if_pos rfl
        rw [hfl]
        have hwb2 := mW_at I (blk (mSg I) q) (8 * blk (mSg I) q + 1) fs.length g
        have hR2 : mC yX4_isRight cX4_isRight 1 (some FieldType.boolean) 0 [vR (some 360)] (mW I (blk (mSg I) q + 1) (8 * blk (mSg I) q + 1) fs.length g) (some (vI (bi (8 * blk (mSg I) q + 1 = -1)))) (mW I (blk (mSg I) q + 1) (8 * blk (mSg I) q + 1) fs.length g) := mW_C (c_isRightP (by omega))
        have hwb3 := mW_at I (blk (mSg I) q + 1) (8 * blk (mSg I) q + 1) fs.length g
        refine x_aload_n dX4_readsForm_86 rfl ?_
        refine x_dup dX4_readsForm_87 rfl ?_
        refine m_getI (kf := 2) 2 (by decide) rfl rfl q2117 rfl dX4_readsForm_88 ?_
        rw [hwb2.2.1]
        refine x_iconst dX4_readsForm_91 ?_
        refine x_iadd dX4_readsForm_92 ?_
        refine m_putI (kf := 2) 2 (by decide) rfl rfl q2117 rfl rfl (rr_nar_i _) dX4_readsForm_93 ?_
        rw [mW_p]
        refine x_aload_n dX4_readsForm_96 rfl ?_
        refine m_cv0 (hR2) fX4_isRight q2283 (by decide) (Nat.le_of_ble_eq_true rfl) dX4_readsForm_97 ?_
        refine x_if_eq_b (t := 116) dX4_readsForm_100 (by decide) (fun c_100 => ?_) (fun c_100 => ?_)
        · skip
          refine x_aload_n dX4_readsForm_116 rfl ?_
          refine x_dup dX4_readsForm_117 rfl ?_
          refine m_getI (kf := 5) 5 (by decide) rfl rfl q2120 rfl dX4_readsForm_118 ?_
          rw [hwb3.1]
          refine x_iconst dX4_readsForm_121 ?_
          refine x_iadd dX4_readsForm_122 ?_
          refine m_putI (kf := 5) 5 (by decide) rfl rfl q2120 rfl rfl (rr_nar_i _) dX4_readsForm_123 ?_
          refine x_vret rfl dX4_readsForm_126 (Nat.le_refl _) (Nat.le_refl _) ?_
          refine ⟨rfl, rfl, _, rfl, ?_⟩
          rw [mW_k, ← hF]
          refine ⟨_, _, _, rfl, hg, by omega, by omega, ?_, fun z => by omega⟩
          rw [hpf, if_neg c_74]
        · skip
          exfalso; omega
  · skip
    refine x_aload_n dX4_readsForm_12 rfl ?_
    refine m_cv0 (hR) fX4_isRight q2283 (by decide) (Nat.le_of_ble_eq_true rfl) dX4_readsForm_13 ?_
    refine x_if_eq_b (t := 57) dX4_readsForm_16 (by decide) (fun c_16 => ?_) (fun c_16 => ?_)
    · skip
      exact absurd rfl c_16
    · skip
      refine x_aload_n dX4_readsForm_19 rfl ?_
      refine m_getA (kf := 7) 7 (a := 363) (by decide) rfl rfl q2122 rfl rfl dX4_readsForm_20 ?_
      refine x_iconst dX4_readsForm_23 ?_
      refine x_aload_n dX4_readsForm_24 rfl ?_
      refine m_getI (kf := 5) 5 (by decide) rfl rfl q2120 rfl dX4_readsForm_25 ?_
      rw [hw.1]
      refine x_imul dX4_readsForm_28 ?_
      refine x_iload_n dX4_readsForm_29 rfl ?_
      refine x_iadd dX4_readsForm_30 ?_
      refine x_aload_n dX4_readsForm_31 rfl ?_
      have hni := num_in h1 hq.1
      have hnf := numF_in h1 hq
      have hN : mC yX4_numberTaken cX4_numberTaken 3 (some FieldType.int) 2 [vR (some 360)] (mW I q (-1) fs.length g) (some (vI (numV (mSg I) q))) (mW I (numP (mSg I) q) (numF (mSg I) q (-1)) fs.length g) := mW_C (by
        have := c_numberTaken (I := mW I q (-1) fs.length g) (p := q) (f := -1) (by omega) (by rw [hw.2.2.2.1]; exact h1) (by omega)
        rw [mSg_mW] at this
        exact this)
      refine m_cv0 (hN) fX4_numberTaken q2291 (by decide) (Nat.le_of_ble_eq_true rfl) dX4_readsForm_32 ?_
      refine m_iast (n := 105) rfl rfl (by decide) (by omega) dX4_readsForm_35 ?_
      rw [mW_g, upA_g]
      have hw2 := mW_at I (numP (mSg I) q) (numF (mSg I) q (-1)) fs.length (upA g (5 * (fs.length : Int) + l.length) (numV (mSg I) q))
      have hg2 : gOK (upA g (5 * (fs.length : Int) + l.length) (numV (mSg I) q)) := hg.up hni.1
      refine x_aload_n dX4_readsForm_36 rfl ?_
      refine m_getI (kf := 5) 5 (by decide) rfl rfl q2120 rfl dX4_readsForm_37 ?_
      rw [hw2.1]
      refine x_bipush dX4_readsForm_40 (by decide) ?_
      refine x_icmp_ne (t := 51) dX4_readsForm_42 (by decide) (by omega) (fun c_42 => ?_) (fun c_42 => ?_)
      · skip
        refine x_iinc dX4_readsForm_51 rfl (by decide) ?_
        refine x_goto (t := 7) dX4_readsForm_54 (by decide) ?_
        have hne : fs.length ≠ 20 := by omega
        have hlt : l.length < 5 := by omega
        have hs5 : rdN (mSg I) (5 - l.length) q l = if numF (mSg I) q (-1) = -1 then rdN (mSg I) (5 - (l.length + 1)) (numP (mSg I) q) (l ++ [numV (mSg I) q]) else (numF (mSg I) q (-1), q, l) := by
          rw [show 5 - l.length = (5 - (l.length + 1)) + 1 by omega]
          rfl
        by_cases ef : numF (mSg I) q (-1) = -1
        · rw [if_pos ef] at hs5
          rw [ef]
          have hv31 := numV_31 (T := mSg I) (p := q) (by have := blk_le h1 hq.1; omega) ef
          have hgo := ih (l ++ [numV (mSg I) q], numP (mSg I) q, upA g (5 * (fs.length : Int) + l.length) (numV (mSg I) q)) ⟨⟨by simp; omega, fun z => absurd z hne⟩, by simp only; omega, hg2, fun i hi => ?_, ?_, fun y hy => ?_⟩ (by simp; omega)
          · exact x_loc (by rw [show (((l ++ [numV (mSg I) q], numP (mSg I) q, upA g (5 * (fs.length : Int) + l.length) (numV (mSg I) q)) : List Int × Int × (Int → Int)).1.length : Int) = (l.length : Int) + 1 by simp]; exact (by repeat first | exact trivial | refine ⟨Or.inr rfl, ?_⟩ | refine ⟨Or.inl rfl, ?_⟩)) hgo
          · obtain ⟨a1, a2⟩ := he i hi
            refine ⟨a1, fun y hy => ?_⟩
            simp only
            rw [upA_n _ _ (by omega)]
            exact a2 y hy
          · rw [hrd, hs5]
            simp
          · simp only [List.length_append, List.length_singleton] at hy
            simp only
            by_cases e : y = l.length
            · subst e
              rw [upA_s]
              have : (l ++ [numV (mSg I) q]).getD l.length 0 = numV (mSg I) q := by simp
              rw [this]
              exact ⟨rfl, hni.1.1, hv31⟩
            · rw [upA_n _ _ (by omega)]
              have : (l ++ [numV (mSg I) q]).getD y 0 = l.getD y 0 := by simp [List.getD_eq_getElem?_getD, List.getElem?_append_left (show y < l.length by omega)]
              rw [this]
              exact hgl y (by omega)
        · rw [if_neg ef] at hs5
          refine c_readsForm_bad7 (by omega) (by omega) (by omega) ?_
          rw [← hF]
          refine ⟨_, _, _, rfl, hg2, by omega, by omega, ?_, fun z => absurd z ef⟩
          unfold pForm
          rw [if_neg hne, hrd, hs5, if_neg ef]
      · skip
        refine x_aload_n dX4_readsForm_45 rfl ?_
        refine x_iconst dX4_readsForm_46 ?_
        refine x_iload_n dX4_readsForm_47 rfl ?_
        refine m_cw2 (mW_C (c_failsP (by omega))) fX4_fails q2302 (by decide) (Nat.le_of_ble_eq_true rfl) dX4_readsForm_48 ?_
        obtain ⟨rfl, rfl⟩ := h20 (by omega)
        refine x_iinc dX4_readsForm_51 rfl (by decide) ?_
        refine x_goto (t := 7) dX4_readsForm_54 (by decide) ?_
        have hfl : -1 < flt (numF (mSg I) q (-1)) 3 q ∧ flt (numF (mSg I) q (-1)) 3 q < 100000 := by unfold flt; split <;> omega
        refine c_readsForm_bad7 hfl (by simp) (by omega) ?_
        rw [← hF]
        refine ⟨_, _, _, rfl, hg2, by omega, by omega, ?_, fun z => by omega⟩
        have h20' : fs.length = 20 := by omega
        unfold pForm flt
        rw [if_pos h20']
