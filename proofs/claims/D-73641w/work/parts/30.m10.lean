set_option maxRecDepth 100000
/-! THE MODEL's methods, 10: the lexicon -/
/-- two words, by their letters, then by their length -/
def lcmp : List Int → List Int → Int
  | [], q => -(q.length : Int)
  | p, [] => (p.length : Int)
  | a :: p, b :: q => if a = b then lcmp p q else a - b
theorem lcmp_nil (p : List Int) : lcmp p [] = p.length := by cases p <;> simp [lcmp]
theorem lcmp_in {p q : List Int} (hp : p.length ≤ 7) (hq : q.length ≤ 7) (h1 : ∀ c ∈ p, 0 ≤ c ∧ c < 20) (h2 : ∀ c ∈ q, 0 ≤ c ∧ c < 20) : -20 ≤ lcmp p q ∧ lcmp p q ≤ 20 := by
  induction p generalizing q with
  | nil => simp only [lcmp]; omega
  | cons a p ih =>
    cases q with
    | nil => simp only [lcmp, List.length_cons] at *; omega
    | cons b q =>
      simp only [lcmp]
      split
      · exact ih (by simp at hp; omega) (by simp at hq; omega) (fun c hc => h1 c (List.mem_cons_of_mem _ hc)) (fun c hc => h2 c (List.mem_cons_of_mem _ hc))
      · have := h1 a List.mem_cons_self
        have := h2 b List.mem_cons_self
        omega
theorem drop_cons {l : List Int} {k : Nat} (h : k < l.length) : l.drop k = l.getD k 0 :: l.drop (k + 1) := by
  rw [List.drop_eq_getElem_cons h]
  simp [h]
/-- an entry of the lexicon as the arrays hold it: length, how often, signs -/
def enI (I : Nat → Int → Int) (j : Int) : Int × Int × (Int → Int) := (I 376 j, I 378 j, fun k => if 0 ≤ k ∧ k < 7 then I 377 (7 * j + k) else 0)
def wk (w : List Int) (k : Int) : Int := if k < w.length then w.getD k.toNat 0 else -1
def encW (q : List Int × Int) : Int × Int × (Int → Int) := ((q.1.length : Int), q.2, fun k => if 0 ≤ k ∧ k < 7 then wk q.1 k else 0)
/-- a word -/
def WOK (w : List Int) : Prop := (1 ≤ w.length ∧ w.length ≤ 7) ∧ ∀ c ∈ w, 0 ≤ c ∧ c < 20
/-- the lexicon L stands in the arrays -/
def WE (I : Nat → Int → Int) (L : List (List Int × Int)) : Prop := I 360 25 = L.length ∧ (∀ (j : Nat) (q : List Int × Int), L[j]? = some q → enI I j = encW q ∧ WOK q.1)
theorem WE.at {I : Nat → Int → Int} {L : List (List Int × Int)} (h : WE I L) {j : Nat} {q : List Int × Int} (hj : L[j]? = some q) : I 376 j = q.1.length ∧ I 378 j = q.2 ∧ ∀ k : Nat, k < q.1.length → I 377 (7 * (j : Int) + k) = q.1.getD k 0 := by
  obtain ⟨h1, h2⟩ := h.2 j q hj
  have e1 := congrArg Prod.fst h1
  have e2 := congrArg (fun z => z.2.1) h1
  have e3 := congrArg (fun z => z.2.2) h1
  refine ⟨e1, e2, fun k hk => ?_⟩
  have e4 := congrFun e3 (k : Int)
  have := h2.1.2
  simp only [enI, encW] at e4
  rw [if_pos (by omega), if_pos (by omega)] at e4
  rw [e4]
  unfold wk
  rw [if_pos (by omega), show (k : Int).toNat = k by omega]
theorem c_against {I : Nat → Int → Int} {p w : List Int} {j : Nat} (hj : j ≤ 240) (hp : PE I p) (hw : WOK w) (h1 : I 376 j = w.length) (h2 : ∀ k : Nat, k < w.length → I 377 (7 * (j : Int) + k) = w.getD k 0) : mC yX4_against cX4_against 4 (some FieldType.int) 0 [vR (some 360), vI (p.length : Int), vI (j : Int)] I (some (vI (lcmp p w))) I := by
  have hp7 := hp.1
  have hw7 := hw.1
  refine mC.of (by decide) rfl (Nat.le_of_ble_eq_true rfl) (fun G nx => ?_)
  refine x_ls (ls2 := [some (vR (some 360)), some (vI (p.length : Int)), some (vI (j : Int)), none]) rfl ?_
  refine x_iconst dX4_against_0 ?_
  refine x_istore_n dX4_against_1 (by decide) ?_
  refine x_loc (ls2 := [some (vR (some 360)), some (vI (p.length : Int)), some (vI (j : Int)), some (vI ((0 : Nat) : Int))]) (by repeat first | exact trivial | refine ⟨Or.inr rfl, ?_⟩ | refine ⟨Or.inl rfl, ?_⟩) ?_
  refine rr_ind (W := fun k : Nat => mm G yX4_against cX4_against 4 (some FieldType.int) 0 nx _ _ 2 [some (vR (some 360)), some (vI (p.length : Int)), some (vI (j : Int)), some (vI (k : Int))] [] I) (fun k => p.length - k) (fun k => (k ≤ p.length ∧ k ≤ w.length) ∧ lcmp (p.drop k) (w.drop k) = lcmp p w) ?_ 0 ⟨by omega, rfl⟩
  rintro k ⟨⟨hk1, hk2⟩, hk⟩ ih
  have e1 : k < p.length → I 375 k = p.getD k 0 := fun q => hp.2.1 k q
  have e2 := fun q => h2 k q
  have b1 : k < p.length → 0 ≤ p.getD k 0 ∧ p.getD k 0 < 20 := fun q => by
    rw [List.getD_eq_getElem?_getD, List.getElem?_eq_getElem q]
    exact hp.2.2 _ (List.getElem_mem _)
  have b2 : k < w.length → 0 ≤ w.getD k 0 ∧ w.getD k 0 < 20 := fun q => by
    rw [List.getD_eq_getElem?_getD, List.getElem?_eq_getElem q]
    exact hw.2 _ (List.getElem_mem _)
  refine x_iload_n dX4_against_2 rfl ?_
  refine x_iload_n dX4_against_3 rfl ?_
  refine x_icmp_ge (t := 62) dX4_against_4 (by decide) (by omega) (fun c_4 => ?_) (fun c_4 => ?_)
  · skip
    have hke : k = p.length := by omega
    rw [hke, List.drop_length] at hk
    refine x_iload_n dX4_against_62 rfl ?_
    refine x_aload_n dX4_against_63 rfl ?_
    refine m_getA (kf := 27) 27 (a := 376) (by decide) rfl rfl q2142 rfl rfl dX4_against_64 ?_
    refine x_iload_n dX4_against_67 rfl ?_
    refine m_iald (n := 241) rfl rfl (by decide) (by omega) dX4_against_68 ?_
    rw [h1]
    refine x_isub dX4_against_69 ?_
    refine x_iret rfl dX4_against_70 (Nat.le_refl _) (Nat.le_refl _) ?_
    exact ⟨by rw [← hk]; simp only [lcmp, List.length_drop]; congr 2; omega, rfl, rfl⟩
  · skip
    refine x_iload_n dX4_against_7 rfl ?_
    refine x_aload_n dX4_against_8 rfl ?_
    refine m_getA (kf := 27) 27 (a := 376) (by decide) rfl rfl q2142 rfl rfl dX4_against_9 ?_
    refine x_iload_n dX4_against_12 rfl ?_
    refine m_iald (n := 241) rfl rfl (by decide) (by omega) dX4_against_13 ?_
    rw [h1]
    refine x_icmp_ge (t := 62) dX4_against_14 (by decide) (by omega) (fun c_14 => ?_) (fun c_14 => ?_)
    · skip
      have hke : k = w.length := by omega
      rw [hke, List.drop_length, lcmp_nil, List.length_drop] at hk
      refine x_iload_n dX4_against_62 rfl ?_
      refine x_aload_n dX4_against_63 rfl ?_
      refine m_getA (kf := 27) 27 (a := 376) (by decide) rfl rfl q2142 rfl rfl dX4_against_64 ?_
      refine x_iload_n dX4_against_67 rfl ?_
      refine m_iald (n := 241) rfl rfl (by decide) (by omega) dX4_against_68 ?_
      rw [h1]
      refine x_isub dX4_against_69 ?_
      refine x_iret rfl dX4_against_70 (Nat.le_refl _) (Nat.le_refl _) ?_
      exact ⟨by rw [← hk]; congr 2; omega, rfl, rfl⟩
    · skip
      have b1 := b1 (by omega)
      have b2 := b2 (by omega)
      rw [drop_cons (show k < p.length by omega), drop_cons (show k < w.length by omega)] at hk
      simp only [lcmp] at hk
      refine x_aload_n dX4_against_17 rfl ?_
      refine m_getA (kf := 24) 24 (a := 375) (by decide) rfl rfl q2139 rfl rfl dX4_against_18 ?_
      refine x_iload_n dX4_against_21 rfl ?_
      refine m_iald (n := 7) rfl rfl (by decide) (by omega) dX4_against_22 ?_
      rw [e1 (by omega)]
      refine x_aload_n dX4_against_23 rfl ?_
      refine m_getA (kf := 28) 28 (a := 377) (by decide) rfl rfl q2143 rfl rfl dX4_against_24 ?_
      refine x_bipush dX4_against_27 (by decide) ?_
      refine x_iload_n dX4_against_29 rfl ?_
      refine x_imul dX4_against_30 ?_
      refine x_iload_n dX4_against_31 rfl ?_
      refine x_iadd dX4_against_32 ?_
      refine m_iald (n := 1687) rfl rfl (by decide) (by omega) dX4_against_33 ?_
      rw [e2 (by omega)]
      refine x_icmp_eq (t := 56) dX4_against_34 (by decide) (by omega) (fun c_34 => ?_) (fun c_34 => ?_)
      · skip
        refine x_iinc dX4_against_56 rfl (by decide) ?_
        refine x_goto (t := 2) dX4_against_59 (by decide) ?_
        exact x_loc (by rw [show ((k + 1 : Nat) : Int) = (k : Int) + 1 by omega]; exact (by repeat first | exact trivial | refine ⟨Or.inr rfl, ?_⟩ | refine ⟨Or.inl rfl, ?_⟩)) (ih (k + 1) ⟨by omega, by rw [← hk, if_pos c_34]⟩ (by omega))
      · skip
        refine x_aload_n dX4_against_37 rfl ?_
        refine m_getA (kf := 24) 24 (a := 375) (by decide) rfl rfl q2139 rfl rfl dX4_against_38 ?_
        refine x_iload_n dX4_against_41 rfl ?_
        refine m_iald (n := 7) rfl rfl (by decide) (by omega) dX4_against_42 ?_
        rw [e1 (by omega)]
        refine x_aload_n dX4_against_43 rfl ?_
        refine m_getA (kf := 28) 28 (a := 377) (by decide) rfl rfl q2143 rfl rfl dX4_against_44 ?_
        refine x_bipush dX4_against_47 (by decide) ?_
        refine x_iload_n dX4_against_49 rfl ?_
        refine x_imul dX4_against_50 ?_
        refine x_iload_n dX4_against_51 rfl ?_
        refine x_iadd dX4_against_52 ?_
        refine m_iald (n := 1687) rfl rfl (by decide) (by omega) dX4_against_53 ?_
        rw [e2 (by omega)]
        refine x_isub dX4_against_54 ?_
        refine x_iret rfl dX4_against_55 (Nat.le_refl _) (Nat.le_refl _) ?_
        exact ⟨by rw [← hk, if_neg c_34], rfl, rfl⟩
def CpPost (I : Nat → Int → Int) (a b : Int) (I' : Nat → Int → Int) : Prop := eqx I I' [376, 377, 378] [] ∧ enI I' b = enI I a ∧ ∀ m, m ≠ b → enI I' m = enI I m
theorem c_copiesWord {I : Nat → Int → Int} {a b : Int} (ha : 0 ≤ a ∧ a < 241) (hb : 0 ≤ b ∧ b < 241) (hab : a ≠ b) : mE yX4_copiesWord cX4_copiesWord 4 none 0 [vR (some 360), vI a, vI b] I (CpPost I a b) := by
  refine mE.of (by decide) rfl (Nat.le_of_ble_eq_true rfl) (fun G nx => ?_)
  refine x_ls (ls2 := [some (vR (some 360)), some (vI a), some (vI b), none]) rfl ?_
  refine x_aload_n dX4_copiesWord_0 rfl ?_
  refine m_getA (kf := 27) 27 (a := 376) (by decide) rfl rfl q2142 rfl rfl dX4_copiesWord_1 ?_
  refine x_iload_n dX4_copiesWord_4 rfl ?_
  refine x_aload_n dX4_copiesWord_5 rfl ?_
  refine m_getA (kf := 27) 27 (a := 376) (by decide) rfl rfl q2142 rfl rfl dX4_copiesWord_6 ?_
  refine x_iload_n dX4_copiesWord_9 rfl ?_
  refine m_iald (n := 241) rfl rfl (by decide) (by omega) dX4_copiesWord_10 ?_
  refine m_iast (n := 241) rfl rfl (by decide) (by omega) dX4_copiesWord_11 ?_
  refine x_aload_n dX4_copiesWord_12 rfl ?_
  refine m_getA (kf := 29) 29 (a := 378) (by decide) rfl rfl q2144 rfl rfl dX4_copiesWord_13 ?_
  refine x_iload_n dX4_copiesWord_16 rfl ?_
  refine x_aload_n dX4_copiesWord_17 rfl ?_
  refine m_getA (kf := 29) 29 (a := 378) (by decide) rfl rfl q2144 rfl rfl dX4_copiesWord_18 ?_
  refine x_iload_n dX4_copiesWord_21 rfl ?_
  refine m_iald (n := 241) rfl rfl (by decide) (by omega) dX4_copiesWord_22 ?_
  refine m_iast (n := 241) rfl rfl (by decide) (by omega) dX4_copiesWord_23 ?_
  refine x_iconst dX4_copiesWord_24 ?_
  refine x_istore_n dX4_copiesWord_25 (by decide) ?_
  generalize hJ : rr_u2 (rr_u2 I 376 b (I 376 a)) 378 b (rr_u2 I 376 b (I 376 a) 378 a) = J
  have e377 : ∀ j, J 377 j = I 377 j := fun j => by rw [← hJ]; simp [rr_u2]
  refine x_h (h2 := mh (fl J 377 (7 * b) (7 * b + 0) (fun j => I 377 (7 * a + (j - 7 * b))))) (by rw [fl_0 J 377 (by omega)]) ?_
  refine rr_ind (W := fun k => me G yX4_copiesWord cX4_copiesWord 4 none 0 nx _ 26 [some (vR (some 360)), some (vI a), some (vI b), some (vI k)] [] (fl J 377 (7 * b) (7 * b + k) (fun j => I 377 (7 * a + (j - 7 * b))))) (fun k => (7 - k).toNat) (fun k => 0 ≤ k ∧ k ≤ 7) ?_ 0 (by omega)
  intro k hk ih
  refine x_iload_n dX4_copiesWord_26 rfl ?_
  refine x_bipush dX4_copiesWord_27 (by decide) ?_
  refine x_icmp_ge (t := 60) dX4_copiesWord_29 (by decide) (by omega) (fun c_29 => ?_) (fun c_29 => ?_)
  · skip
    have hk2 : k = 7 := by omega
    subst hk2
    refine x_vret rfl dX4_copiesWord_60 (Nat.le_refl _) (Nat.le_refl _) ?_
    refine ⟨rfl, rfl, _, rfl, ⟨fun x h1 h2 => ?_, fun j _ => ?_⟩, ?_, fun m hm => ?_⟩
    · funext j
      simp at h2
      rw [fl_o _ _ _ _ _ (by omega), ← hJ]
      simp [rr_u2, h2]
    · rw [fl_o _ _ _ _ _ (by omega), ← hJ]
      simp [rr_u2]
    · unfold enI
      rw [fl_o _ _ _ _ _ (by omega), fl_o _ _ _ _ _ (by omega)]
      refine Prod.ext ?_ (Prod.ext ?_ ?_)
      · rw [← hJ]; simp [rr_u2]
      · rw [← hJ]; simp [rr_u2]
      · funext k
        simp only [fl]
        by_cases hk : 0 ≤ k ∧ k < 7
        · rw [if_pos hk, if_pos hk, if_pos (by refine ⟨?_, ?_, ?_⟩ <;> first | trivial | omega), show 7 * b + k - 7 * b = k by omega]
        · rw [if_neg hk, if_neg hk]
    · unfold enI
      rw [fl_o _ _ _ _ _ (by omega), fl_o _ _ _ _ _ (by omega)]
      refine Prod.ext ?_ (Prod.ext ?_ ?_)
      · rw [← hJ]; simp [rr_u2, hm]
      · rw [← hJ]; simp [rr_u2, hm]
      · funext k
        dsimp only
        by_cases hk : 0 ≤ k ∧ k < 7
        · rw [if_pos hk, if_pos hk, fl_o _ _ _ _ _ (by omega), e377]
        · rw [if_neg hk, if_neg hk]
  · skip
    refine x_aload_n dX4_copiesWord_32 rfl ?_
    refine m_getA (kf := 28) 28 (a := 377) (by decide) rfl rfl q2143 rfl rfl dX4_copiesWord_33 ?_
    refine x_bipush dX4_copiesWord_36 (by decide) ?_
    refine x_iload_n dX4_copiesWord_38 rfl ?_
    refine x_imul dX4_copiesWord_39 ?_
    refine x_iload_n dX4_copiesWord_40 rfl ?_
    refine x_iadd dX4_copiesWord_41 ?_
    refine x_aload_n dX4_copiesWord_42 rfl ?_
    refine m_getA (kf := 28) 28 (a := 377) (by decide) rfl rfl q2143 rfl rfl dX4_copiesWord_43 ?_
    refine x_bipush dX4_copiesWord_46 (by decide) ?_
    refine x_iload_n dX4_copiesWord_48 rfl ?_
    refine x_imul dX4_copiesWord_49 ?_
    refine x_iload_n dX4_copiesWord_50 rfl ?_
    refine x_iadd dX4_copiesWord_51 ?_
    refine m_iald (n := 1687) rfl rfl (by decide) (by omega) dX4_copiesWord_52 ?_
    rw [fl_o _ _ _ _ _ (by omega), e377]
    refine m_iast (n := 1687) rfl rfl (by decide) (by omega) dX4_copiesWord_53 ?_
    rw [fl_s J 377 (by omega) _ (by congr 1; omega), Int.add_assoc]
    refine x_iinc dX4_copiesWord_54 rfl (by decide) ?_
    refine x_goto (t := 26) dX4_copiesWord_57 (by decide) ?_
    exact ih (k + 1) (by omega) (by omega)
/-- where a word comes, and how the lexicon is then -/
def posW (L : List (List Int × Int)) (p : List Int) : Nat := (L.takeWhile (fun q => decide (0 < lcmp p q.1))).length
def insW (L : List (List Int × Int)) (p : List Int) : List (List Int × Int) :=
  match L[posW L p]? with
  | some q => if lcmp p q.1 = 0 then L.set (posW L p) (q.1, q.2 + 1) else L.take (posW L p) ++ (p, 1) :: L.drop (posW L p)
  | none => L.take (posW L p) ++ (p, 1) :: L.drop (posW L p)
theorem posW_spec (L : List (List Int × Int)) (p : List Int) : posW L p ≤ L.length ∧ (∀ m q, m < posW L p → L[m]? = some q → 0 < lcmp p q.1) ∧ ∀ q, L[posW L p]? = some q → ¬ 0 < lcmp p q.1 := by
  unfold posW
  induction L with
  | nil => simp
  | cons a L ih =>
    simp only [List.takeWhile_cons]
    by_cases h : 0 < lcmp p a.1
    · rw [decide_eq_true h]
      simp only [if_true, List.length_cons]
      refine ⟨by omega, fun m q h1 h2 => ?_, fun q hq => ih.2.2 q (by simpa using hq)⟩
      cases m with
      | zero => simp at h2; rw [← h2]; exact h
      | succ m => exact ih.2.1 m q (by omega) (by simpa using h2)
    · rw [decide_eq_false h]
      simp only [Bool.false_eq_true, if_false, List.length_nil]
      exact ⟨by omega, fun m q h1 => by omega, fun q hq => by simp at hq; rw [← hq]; exact h⟩
theorem posW_uniq {L : List (List Int × Int)} {p : List Int} {a : Nat} (h1 : a ≤ L.length) (h2 : ∀ m q, m < a → L[m]? = some q → 0 < lcmp p q.1) (h3 : ∀ q, L[a]? = some q → ¬ 0 < lcmp p q.1) : a = posW L p := by
  obtain ⟨g1, g2, g3⟩ := posW_spec L p
  rcases Nat.lt_trichotomy a (posW L p) with q | q | q
  · exact absurd (g2 a _ q (List.getElem?_eq_getElem (by omega))) (h3 _ (List.getElem?_eq_getElem (by omega)))
  · exact q
  · exact absurd (h2 _ _ q (List.getElem?_eq_getElem (by omega))) (g3 _ (List.getElem?_eq_getElem (by omega)))

theorem eqx.tr {I I' I'' : Nat → Int → Int} {xs : List Nat} {fs : List Int} (h : eqx I I' xs fs) (h' : eqx I' I'' xs fs) : eqx I I'' xs fs := ⟨fun x h1 h2 => (h'.1 x h1 h2).trans (h.1 x h1 h2), fun j hj => (h'.2 j hj).trans (h.2 j hj)⟩
theorem eqx.mono {I I' : Nat → Int → Int} {xs ys : List Nat} {fs gs : List Int} (h : eqx I I' xs fs) (h1 : ∀ x ∈ xs, x ∈ ys) (h2 : ∀ j ∈ fs, j ∈ gs) : eqx I I' ys gs := ⟨fun x a b => h.1 x a (fun q => b (h1 x q)), fun j a => h.2 j (fun q => a (h2 j q))⟩
/-- behind comesWord -/
def CwPost (I : Nat → Int → Int) (L : List (List Int × Int)) (p : List Int) (I' : Nat → Int → Int) : Prop := eqx I I' [376, 377, 378] [25] ∧ WE I' (insW L p)
theorem insAt_get (L : List (List Int × Int)) (x : List Int × Int) {a : Nat} (ha : a ≤ L.length) (m : Nat) : (L.take a ++ x :: L.drop a)[m]? = if m < a then L[m]? else if m = a then some x else L[m - 1]? := by
  by_cases h : m < a
  · rw [if_pos h, List.getElem?_append_left (by rw [List.length_take]; omega), List.getElem?_take, if_pos h]
  · rw [if_neg h, List.getElem?_append_right (by rw [List.length_take]; omega), List.length_take, Nat.min_eq_left ha]
    by_cases h2 : m = a
    · rw [if_pos h2, h2]; simp
    · rw [if_neg h2, show m - a = (m - a - 1) + 1 by omega, List.getElem?_cons_succ, List.getElem?_drop]
      congr 1
      omega
theorem enI_ext {I J : Nat → Int → Int} {j : Int} (h1 : J 376 j = I 376 j) (h2 : J 378 j = I 378 j) (h3 : ∀ k, 0 ≤ k → k < 7 → J 377 (7 * j + k) = I 377 (7 * j + k)) : enI J j = enI I j := by
  unfold enI
  rw [h1, h2]
  refine Prod.ext rfl (Prod.ext rfl ?_)
  funext k
  dsimp only
  by_cases hk : 0 ≤ k ∧ k < 7
  · rw [if_pos hk, if_pos hk, h3 k hk.1 hk.2]
  · rw [if_neg hk, if_neg hk]
theorem c_comesWord_130 {I J : Nat → Int → Int} {G : rr_G} {nx a : Nat} {L L' : List (List Int × Int)} {p : List Int} {z1 z3 : Option rr_V} {t : Int} (ha : a ≤ 240) (hI : eqx I J [376, 377, 378] [25]) (h25 : J 360 25 = L'.length) (hL' : L' = insW L p) (ht : J 378 a = t)
    (hlt : ∀ (m : Nat) q, L'[m]? = some q → WOK q.1 ∧ (m ≠ a → enI J m = encW q) ∧ (m = a → q.2 = t + 1 ∧ J 376 a = q.1.length ∧ ∀ k, 0 ≤ k → k < 7 → J 377 (7 * (a : Int) + k) = wk q.1 k)) :
    me G yX4_comesWord cX4_comesWord 4 none 1 nx (CwPost I L p) 130 [some (vR (some 360)), z1, some (vI (a : Int)), z3] [] J := by
  refine x_aload_n dX4_comesWord_130 rfl ?_
  refine m_getA (kf := 29) 29 (a := 378) (by decide) rfl rfl q2144 rfl rfl dX4_comesWord_131 ?_
  refine x_iload_n dX4_comesWord_134 rfl ?_
  refine x_dup2 dX4_comesWord_135 rfl rfl ?_
  refine m_iald (n := 241) rfl rfl (by decide) (by omega) dX4_comesWord_136 ?_
  rw [ht]
  refine x_iconst dX4_comesWord_137 ?_
  refine x_iadd dX4_comesWord_138 ?_
  refine m_iast (n := 241) rfl rfl (by decide) (by omega) dX4_comesWord_139 ?_
  refine x_vret rfl dX4_comesWord_140 (Nat.le_refl _) (Nat.le_refl _) ?_
  refine ⟨rfl, rfl, _, rfl, ⟨fun x h1 h2 => ?_, fun j hj => ?_⟩, ?_, fun m q hq => ?_⟩
  · funext j
    simp at h2
    rw [rr_u2_ne _ _ (by omega), hI.1 x h1 (by simpa using h2)]
  · rw [rr_u2_ne _ _ (by omega), hI.2 j hj]
  · rw [rr_u2_ne _ _ (by omega), h25, hL']
  · rw [← hL'] at hq
    obtain ⟨g1, g2, g3⟩ := hlt m q hq
    refine ⟨?_, g1⟩
    by_cases e : m = a
    · subst e
      obtain ⟨k1, k2, k3⟩ := g3 rfl
      unfold enI encW
      rw [rr_u2_same, rr_u2_ne _ _ (by omega), k2]
      refine Prod.ext rfl (Prod.ext k1.symm ?_)
      funext k
      dsimp only
      by_cases hk : 0 ≤ k ∧ k < 7
      · rw [if_pos hk, if_pos hk, rr_u2_ne _ _ (by omega), k3 k hk.1 hk.2]
      · rw [if_neg hk, if_neg hk]
    · rw [← g2 e]
      exact enI_ext (rr_u2_ne _ _ (by omega)) (rr_u2_ne _ _ (by omega)) (fun k _ _ => rr_u2_ne _ _ (by omega))
/-- a new word is laid -/
theorem c_comesWord_42 {I : Nat → Int → Int} {G : rr_G} {nx a : Nat} {L : List (List Int × Int)} {p : List Int} (hL : WE I L) (hl : L.length < 240) (hp : PE I p) (hp1 : 1 ≤ p.length) (ha : a ≤ L.length) (hins : insW L p = L.take a ++ (p, 1) :: L.drop a) :
    me G yX4_comesWord cX4_comesWord 4 none 1 nx (CwPost I L p) 42 [some (vR (some 360)), some (vI (p.length : Int)), some (vI (a : Int)), none] [] I := by
  have e25 := hL.1
  have hp7 := hp.1
  refine x_aload_n dX4_comesWord_42 rfl ?_
  refine m_getI (kf := 25) 25 (by decide) rfl rfl q2140 rfl dX4_comesWord_43 ?_
  rw [e25]
  refine x_istore_n dX4_comesWord_46 (by decide) ?_
  refine x_loc (ls2 := [some (vR (some 360)), some (vI (p.length : Int)), some (vI (a : Int)), some (vI ((L.length, I).1 : Int))]) (by repeat first | exact trivial | refine ⟨Or.inr rfl, ?_⟩ | refine ⟨Or.inl rfl, ?_⟩) ?_
  refine rr_ind (W := fun q : Nat × (Nat → Int → Int) => me G yX4_comesWord cX4_comesWord 4 none 1 nx _ 47 [some (vR (some 360)), some (vI (p.length : Int)), some (vI (a : Int)), some (vI (q.1 : Int))] [] q.2) (fun q => q.1 - a) (fun q => (a ≤ q.1 ∧ q.1 ≤ L.length) ∧ eqx I q.2 [376, 377, 378] [] ∧ (∀ m : Nat, m ≤ q.1 → enI q.2 m = enI I m) ∧ ∀ m : Nat, q.1 < m → m ≤ L.length → enI q.2 m = enI I ((m : Int) - 1)) ?_ (L.length, I) ⟨⟨ha, Nat.le_refl _⟩, eqx.rf _ _ _, fun _ _ => rfl, fun m h1 h2 => by simp only at h1; omega⟩
  rintro ⟨k, J⟩ ⟨hk, hJ, hlo, hhi⟩ ih
  simp only at hk hJ hlo hhi ih
  dsimp only
  refine x_iload_n dX4_comesWord_47 rfl ?_
  refine x_iload_n dX4_comesWord_48 rfl ?_
  refine x_icmp_le (t := 66) dX4_comesWord_49 (by decide) (by omega) (fun c_49 => ?_) (fun c_49 => ?_)
  · skip
    have hk2 : k = a := by omega
    subst hk2
    refine x_aload_n dX4_comesWord_66 rfl ?_
    refine x_dup dX4_comesWord_67 rfl ?_
    refine m_getI (kf := 25) 25 (by decide) rfl rfl q2140 rfl dX4_comesWord_68 ?_
    rw [hJ.2 25 (by simp), e25]
    refine x_iconst dX4_comesWord_71 ?_
    refine x_iadd dX4_comesWord_72 ?_
    refine m_putI (kf := 25) 25 (by decide) rfl rfl q2140 rfl rfl (rr_nar_i _) dX4_comesWord_73 ?_
    refine x_aload_n dX4_comesWord_76 rfl ?_
    refine m_getA (kf := 27) 27 (a := 376) (by decide) rfl rfl q2142 rfl rfl dX4_comesWord_77 ?_
    refine x_iload_n dX4_comesWord_80 rfl ?_
    refine x_iload_n dX4_comesWord_81 rfl ?_
    refine m_iast (n := 241) rfl rfl (by decide) (by omega) dX4_comesWord_82 ?_
    refine x_aload_n dX4_comesWord_83 rfl ?_
    refine m_getA (kf := 29) 29 (a := 378) (by decide) rfl rfl q2144 rfl rfl dX4_comesWord_84 ?_
    refine x_iload_n dX4_comesWord_87 rfl ?_
    refine x_iconst dX4_comesWord_88 ?_
    refine m_iast (n := 241) rfl rfl (by decide) (by omega) dX4_comesWord_89 ?_
    refine x_iconst dX4_comesWord_90 ?_
    refine x_istore_n dX4_comesWord_91 (by decide) ?_
    generalize hV : rr_u2 (rr_u2 (rr_u2 J 360 25 ((L.length : Int) + 1)) 376 (k : Int) (p.length : Int)) 378 (k : Int) 0 = V
    have v375 : V 375 = I 375 := by rw [← hJ.1 375 (by decide) (by decide), ← hV]; funext j; simp [rr_u2]
    refine x_h (h2 := mh (fl V 377 (7 * (k : Int)) (7 * k + 0) (fun j => wk p (j - 7 * k)))) (by rw [fl_0 V 377 (by omega)]) ?_
    refine rr_ind (W := fun z => me G yX4_comesWord cX4_comesWord 4 none 1 nx _ 92 [some (vR (some 360)), some (vI (p.length : Int)), some (vI (k : Int)), some (vI z)] [] (fl V 377 (7 * (k : Int)) (7 * k + z) (fun j => wk p (j - 7 * k)))) (fun z => (7 - z).toNat) (fun z => 0 ≤ z ∧ z ≤ 7) ?_ 0 (by omega)
    intro z hz ih2
    have ep : z < p.length → I 375 z = wk p z := fun q => by
      have := hp.2.1 z.toNat (by omega)
      rw [show ((z.toNat : Nat) : Int) = z by omega] at this
      rw [this]
      unfold wk
      rw [if_pos q]
    refine x_iload_n dX4_comesWord_92 rfl ?_
    refine x_bipush dX4_comesWord_93 (by decide) ?_
    refine x_icmp_ge (t := 130) dX4_comesWord_95 (by decide) (by omega) (fun c_95 => ?_) (fun c_95 => ?_)
    · skip
      have hz2 : z = 7 := by omega
      subst hz2
      refine c_comesWord_130 (t := 0) (L' := L.take k ++ (p, 1) :: L.drop k) (by omega) ⟨fun x h1 h2 => ?_, fun j hj => ?_⟩ ?_ hins.symm ?_ (fun m q hq => ?_)
      · funext j
        simp at h2
        rw [fl_o _ _ _ _ _ (by omega), ← hJ.1 x h1 (by simpa using h2), ← hV]
        simp [rr_u2, h1, h2]
      · simp at hj
        rw [fl_o _ _ _ _ _ (by omega), ← hJ.2 j (by simp), ← hV]
        simp [rr_u2, hj]
      · rw [fl_o _ _ _ _ _ (by omega), ← hV]
        simp [rr_u2]
        omega
      · rw [fl_o _ _ _ _ _ (by omega), ← hV]
        simp [rr_u2]
      · rw [insAt_get L _ (by omega)] at hq
        have vm : m ≠ k → enI (fl V 377 (7 * (k : Int)) (7 * k + 7) (fun j => wk p (j - 7 * k))) m = enI J m := fun hm => enI_ext (by rw [fl_o _ _ _ _ _ (by omega), ← hV]; simp [rr_u2]; omega) (by rw [fl_o _ _ _ _ _ (by omega), ← hV]; simp [rr_u2]; omega) (fun j h1 h2 => by rw [fl_o _ _ _ _ _ (by omega), ← hV]; simp [rr_u2])
        by_cases hm : m < k
        · rw [if_pos hm] at hq
          exact ⟨(hL.2 m q hq).2, fun _ => by rw [vm (by omega), hlo m (by omega), (hL.2 m q hq).1], fun e => by omega⟩
        · rw [if_neg hm] at hq
          by_cases hm2 : m = k
          · rw [if_pos hm2] at hq
            cases hq
            refine ⟨⟨⟨hp1, hp7⟩, hp.2.2⟩, fun e => absurd hm2 e, fun _ => ⟨by simp, ?_, fun j h1 h2 => ?_⟩⟩
            · rw [fl_o _ _ _ _ _ (by omega), ← hV]
              simp [rr_u2]
            · simp only [fl]
              rw [if_pos (by refine ⟨?_, ?_, ?_⟩ <;> first | trivial | omega), show 7 * (k : Int) + j - 7 * k = j by omega]
          · rw [if_neg hm2] at hq
            have hlt := (List.getElem?_eq_some_iff.mp hq).1
            exact ⟨(hL.2 (m - 1) q hq).2, fun _ => by rw [vm hm2, hhi m (by omega) (by omega), show (m : Int) - 1 = ((m - 1 : Nat) : Int) by omega, (hL.2 (m - 1) q hq).1], fun e => absurd e hm2⟩
    · skip
      refine x_aload_n dX4_comesWord_98 rfl ?_
      refine m_getA (kf := 28) 28 (a := 377) (by decide) rfl rfl q2143 rfl rfl dX4_comesWord_99 ?_
      refine x_bipush dX4_comesWord_102 (by decide) ?_
      refine x_iload_n dX4_comesWord_104 rfl ?_
      refine x_imul dX4_comesWord_105 ?_
      refine x_iload_n dX4_comesWord_106 rfl ?_
      refine x_iadd dX4_comesWord_107 ?_
      refine x_iload_n dX4_comesWord_108 rfl ?_
      refine x_iload_n dX4_comesWord_109 rfl ?_
      refine x_icmp_ge (t := 122) dX4_comesWord_110 (by decide) (by omega) (fun c_110 => ?_) (fun c_110 => ?_)
      · skip
        have hwk : wk p z = -1 := by unfold wk; rw [if_neg (by omega)]
        refine x_iconst dX4_comesWord_122 ?_
        refine m_iast (n := 1687) rfl rfl (by decide) (by omega) dX4_comesWord_123 ?_
        rw [fl_s V 377 (by omega) _ (by rw [show 7 * (k : Int) + z - 7 * k = z by omega, hwk]), Int.add_assoc]
        refine x_iinc dX4_comesWord_124 rfl (by decide) ?_
        refine x_goto (t := 92) dX4_comesWord_127 (by decide) ?_
        exact ih2 (z + 1) (by omega) (by omega)
      · skip
        refine x_aload_n dX4_comesWord_113 rfl ?_
        refine m_getA (kf := 24) 24 (a := 375) (by decide) rfl rfl q2139 rfl rfl dX4_comesWord_114 ?_
        refine x_iload_n dX4_comesWord_117 rfl ?_
        refine m_iald (n := 7) rfl rfl (by decide) (by omega) dX4_comesWord_118 ?_
        rw [fl_o _ _ _ _ _ (by omega), v375, ep (by omega)]
        refine x_goto (t := 123) dX4_comesWord_119 (by decide) ?_
        refine m_iast (n := 1687) rfl rfl (by decide) (by omega) dX4_comesWord_123 ?_
        rw [fl_s V 377 (by omega) _ (by rw [show 7 * (k : Int) + z - 7 * k = z by omega]), Int.add_assoc]
        refine x_iinc dX4_comesWord_124 rfl (by decide) ?_
        refine x_goto (t := 92) dX4_comesWord_127 (by decide) ?_
        exact ih2 (z + 1) (by omega) (by omega)
  · skip
    refine x_aload_n dX4_comesWord_52 rfl ?_
    refine x_iload_n dX4_comesWord_53 rfl ?_
    refine x_iconst dX4_comesWord_54 ?_
    refine x_isub dX4_comesWord_55 ?_
    refine x_iload_n dX4_comesWord_56 rfl ?_
    refine m_ew2 (c_copiesWord (by omega) (by omega) (by omega)) fX4_copiesWord q2471 (by decide) (Nat.le_of_ble_eq_true rfl) dX4_comesWord_57 (fun J2 hJ2 => ?_)
    refine x_iinc dX4_comesWord_60 rfl (by decide) ?_
    refine x_goto (t := 47) dX4_comesWord_63 (by decide) ?_
    have hgo := ih (k - 1, J2) ⟨by simp only; omega, hJ.tr hJ2.1, fun m hm => by
      simp only at hm
      simp only
      rw [hJ2.2.2 m (by omega), hlo m (by omega)], fun m h1 h2 => by
      simp only at h1
      simp only
      by_cases e : m = k
      · rw [e, hJ2.2.1, show (k : Int) - 1 = ((k - 1 : Nat) : Int) by omega, hlo (k - 1) (by omega)]
      · rw [hJ2.2.2 m (by omega), hhi m (by omega) h2]⟩ (by simp only; omega)
    exact x_loc (by rw [show (((k - 1, J2) : Nat × (Nat → Int → Int)).1 : Int) = (k : Int) + -1 by simp only; omega]; exact (by repeat first | exact trivial | refine ⟨Or.inr rfl, ?_⟩ | refine ⟨Or.inl rfl, ?_⟩)) hgo
theorem c_comesWord {I : Nat → Int → Int} {L : List (List Int × Int)} {p : List Int} (hL : WE I L) (hl : L.length < 240) (hp : PE I p) (hp1 : 1 ≤ p.length) : mE yX4_comesWord cX4_comesWord 4 none 1 [vR (some 360), vI (p.length : Int)] I (CwPost I L p) := by
  have hp7 := hp.1
  have e25 := hL.1
  refine mE.of (by decide) rfl (Nat.le_of_ble_eq_true rfl) (fun G nx => ?_)
  refine x_ls (ls2 := [some (vR (some 360)), some (vI (p.length : Int)), none, none]) rfl ?_
  refine x_iconst dX4_comesWord_0 ?_
  refine x_istore_n dX4_comesWord_1 (by decide) ?_
  refine x_loc (ls2 := [some (vR (some 360)), some (vI (p.length : Int)), some (vI ((0 : Nat) : Int)), none]) (by repeat first | exact trivial | refine ⟨Or.inr rfl, ?_⟩ | refine ⟨Or.inl rfl, ?_⟩) ?_
  refine rr_ind (W := fun a : Nat => me G yX4_comesWord cX4_comesWord 4 none 1 nx _ 2 [some (vR (some 360)), some (vI (p.length : Int)), some (vI (a : Int)), none] [] I) (fun a => L.length - a) (fun a => a ≤ L.length ∧ ∀ m q, m < a → L[m]? = some q → 0 < lcmp p q.1) ?_ 0 ⟨by omega, fun m q h => by omega⟩
  rintro a ⟨ha, hlt⟩ ih
  obtain ⟨q, hq⟩ : ∃ q : List Int × Int, a < L.length → L[a]? = some q := by
    rcases Nat.lt_or_ge a L.length with h | h
    · exact ⟨L[a], fun _ => List.getElem?_eq_getElem h⟩
    · exact ⟨([], 0), fun h2 => by omega⟩
  have hwq : a < L.length → WOK q.1 := fun h => (hL.2 a q (hq h)).2
  have hlc : a < L.length → -20 ≤ lcmp p q.1 ∧ lcmp p q.1 ≤ 20 := fun h => lcmp_in hp7 (hwq h).1.2 hp.2.2 (hwq h).2
  have hag := fun h : a < L.length => c_against (j := a) (by omega) hp (hwq h) (hL.at (hq h)).1 (hL.at (hq h)).2.2
  refine x_iload_n dX4_comesWord_2 rfl ?_
  refine x_aload_n dX4_comesWord_3 rfl ?_
  refine m_getI (kf := 25) 25 (by decide) rfl rfl q2140 rfl dX4_comesWord_4 ?_
  rw [e25]
  refine x_icmp_ge (t := 25) dX4_comesWord_7 (by decide) (by omega) (fun c_7 => ?_) (fun c_7 => ?_)
  · skip
    have hae : a = L.length := by omega
    have hpos : a = posW L p := posW_uniq ha hlt (fun z hz => by rw [hae] at hz; simp at hz)
    have hins : insW L p = L.take a ++ (p, 1) :: L.drop a := by
      unfold insW
      rw [← hpos, hae]
      simp
    refine x_iload_n dX4_comesWord_25 rfl ?_
    refine x_aload_n dX4_comesWord_26 rfl ?_
    refine m_getI (kf := 25) 25 (by decide) rfl rfl q2140 rfl dX4_comesWord_27 ?_
    rw [e25]
    refine x_icmp_eq (t := 42) dX4_comesWord_30 (by decide) (by omega) (fun c_30 => ?_) (fun c_30 => absurd (by omega) c_30)
    exact c_comesWord_42 hL hl hp hp1 ha hins
  · skip
    refine x_aload_n dX4_comesWord_10 rfl ?_
    refine x_iload_n dX4_comesWord_11 rfl ?_
    refine x_iload_n dX4_comesWord_12 rfl ?_
    refine m_cv2 (hag (by omega)) fX4_against q2467 (by decide) (Nat.le_of_ble_eq_true rfl) dX4_comesWord_13 ?_
    refine x_if_le (t := 25) dX4_comesWord_16 (by decide) (by have := hlc (by omega); omega) (fun c_16 => ?_) (fun c_16 => ?_)
    · skip
      have hqa := hq (by omega)
      have hpos : a = posW L p := posW_uniq ha hlt (fun z hz => by rw [hqa] at hz; cases hz; omega)
      refine x_iload_n dX4_comesWord_25 rfl ?_
      refine x_aload_n dX4_comesWord_26 rfl ?_
      refine m_getI (kf := 25) 25 (by decide) rfl rfl q2140 rfl dX4_comesWord_27 ?_
      rw [e25]
      refine x_icmp_eq (t := 42) dX4_comesWord_30 (by decide) (by omega) (fun c_30 => absurd c_30 (by omega)) (fun c_30 => ?_)
      refine x_aload_n dX4_comesWord_33 rfl ?_
      refine x_iload_n dX4_comesWord_34 rfl ?_
      refine x_iload_n dX4_comesWord_35 rfl ?_
      refine m_cv2 (hag (by omega)) fX4_against q2467 (by decide) (Nat.le_of_ble_eq_true rfl) dX4_comesWord_36 ?_
      refine x_if_eq (t := 130) dX4_comesWord_39 (by decide) (by have := hlc (by omega); omega) (fun c_39 => ?_) (fun c_39 => ?_)
      · skip
        refine c_comesWord_130 (t := q.2) (L' := L.set a (q.1, q.2 + 1)) (by omega) (eqx.rf _ _ _) (by rw [List.length_set]; exact e25) (by unfold insW; rw [← hpos, hqa]; simp only; rw [if_pos c_39]) (hL.at hqa).2.1 (fun m z hz => ?_)
        by_cases e : m = a
        · subst e
          rw [List.getElem?_set_self (by omega)] at hz
          cases hz
          have h3 := (hL.2 m q hqa).1
          refine ⟨(hL.2 m q hqa).2, fun h => absurd rfl h, fun _ => ⟨rfl, (hL.at hqa).1, fun k h1 h2 => ?_⟩⟩
          have h4 := congrFun (congrArg (fun z => z.2.2) h3) k
          simp only [enI, encW] at h4
          rw [if_pos ⟨h1, h2⟩, if_pos ⟨h1, h2⟩] at h4
          exact h4
        · rw [List.getElem?_set_ne (fun h => e h.symm)] at hz
          exact ⟨(hL.2 m z hz).2, fun _ => (hL.2 m z hz).1, fun h => absurd h e⟩
      · skip
        exact c_comesWord_42 hL hl hp hp1 ha (by unfold insW; rw [← hpos, hqa]; simp only; rw [if_neg c_39])
    · skip
      refine x_iinc dX4_comesWord_19 rfl (by decide) ?_
      refine x_goto (t := 2) dX4_comesWord_22 (by decide) ?_
      exact x_loc (by rw [show ((a + 1 : Nat) : Int) = (a : Int) + 1 by omega]; exact (by repeat first | exact trivial | refine ⟨Or.inr rfl, ?_⟩ | refine ⟨Or.inl rfl, ?_⟩)) (ih (a + 1) ⟨by omega, fun m z h1 h2 => by
        by_cases e : m = a
        · rw [e, hq (by omega)] at h2; cases h2; omega
        · exact hlt m z (by omega) h2⟩ (by omega))
