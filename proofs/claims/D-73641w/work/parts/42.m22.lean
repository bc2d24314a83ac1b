set_option maxRecDepth 100000
/-! THE MODEL's methods, 22: stones are read -/
abbrev isLt (c : Int) : Prop := 97 ≤ c ∧ c ≤ 122
theorem c_isLetter {I : Nat → Int → Int} {p f : Int} (h1 : 0 ≤ p ∧ p < 2147483648) (h2 : 0 ≤ I 360 1 ∧ I 360 1 ≤ 300) : mC yX4_isLetter cX4_isLetter 1 (some FieldType.boolean) 1 [vR (some 360)] (mP I p f) (some (vI (bi (isLt (mSg I p))))) (mP I p f) := by
  have h3 := mSg_in I p
  refine mC.of (by decide) rfl (Nat.le_of_ble_eq_true rfl) (fun G nx => ?_)
  refine x_ls (ls2 := [some (vR (some 360))]) rfl ?_
  refine x_aload_n dX4_isLetter_0 rfl ?_
  refine m_cv0 (c_signP (by omega) (by assumption)) fX4_sign q2279 (by decide) (Nat.le_of_ble_eq_true rfl) dX4_isLetter_1 ?_
  refine x_bipush dX4_isLetter_4 (by decide) ?_
  refine x_bipush dX4_isLetter_6 (by decide) ?_
  refine m_cs3 (c_in (by omega) (by omega) (by omega)) fX4_in q2299 (by decide) (Nat.le_of_ble_eq_true rfl) dX4_isLetter_8 ?_
  refine x_zret rfl dX4_isLetter_11 (by first | exact Or.inl rfl | exact Or.inr rfl | exact bi_01 _ | omega) (Nat.le_refl _) (Nat.le_refl _) ?_
  exact ⟨rfl, rfl, rfl⟩
def putP (K : Nat → Int → Int) (w n v : Int) : Nat → Int → Int := rr_u2 (rr_u2 K 366 (10 * w + n) v) 365 w (n + 1)
/-- what a place is -/
def plV (c : Int) : Int := if isLt c then c - 97 else -1
theorem mP_u2 (I : Nat → Int → Int) (p f : Int) {a : Nat} (h : a ≠ 360) (i v : Int) : rr_u2 (mP I p f) a i v = mP (rr_u2 I a i v) p f := by
  apply rr_u2_eq; intro x j; simp only [mP, rr_u2]; grind
theorem c_placeTaken {K : Nat → Int → Int} {p w : Int} (hp : 0 ≤ p ∧ p ≤ 1000) (h1 : 0 ≤ K 360 1 ∧ K 360 1 ≤ 300) (hw : 0 ≤ w ∧ w < 28) (hn : 0 ≤ K 365 w ∧ K 365 w ≤ 10) (h4 : 0 ≤ K 360 4 ∧ K 360 4 ≤ 20) :
    mC yX4_placeTaken cX4_placeTaken 3 none 2 [vR (some 360), vI w] (mP K p (-1)) none (if isLt (mSg K p) ∧ K 360 4 ≤ mSg K p - 97 then mP K p (8 * p + 2) else if K 365 w = 10 then mP K p (8 * p + 3) else mP (putP K w (K 365 w) (plV (mSg K p))) (p + 1) (-1)) := by
  have hs := mSg_in K p
  have e365 : ∀ q f, mP K q f 365 = K 365 := fun q f => by funext j; exact mP_a K q f (by decide) j
  have e4 : ∀ q f, mP K q f 360 4 = K 360 4 := fun q f => mP_o K q f (by decide) (by decide)
  have f2 : flt (-1) 2 p = 8 * p + 2 := if_pos rfl
  have f3 : flt (-1) 3 p = 8 * p + 3 := if_pos rfl
  have f23 : flt (8 * p + 2) 3 p = 8 * p + 2 := if_neg (by omega)
  refine mC.of (by decide) rfl (Nat.le_of_ble_eq_true rfl) (fun G nx => ?_)
  refine x_ls (ls2 := [some (vR (some 360)), some (vI w), none]) rfl ?_
  refine x_aload_n dX4_placeTaken_0 rfl ?_
  refine m_getA (kf := 10) 10 (a := 365) (by decide) rfl rfl q2125 rfl rfl dX4_placeTaken_1 ?_
  refine x_iload_n dX4_placeTaken_4 rfl ?_
  refine m_iald (n := 28) rfl rfl (by decide) (by omega) dX4_placeTaken_5 ?_
  rw [e365]
  refine x_istore_n dX4_placeTaken_6 (by decide) ?_
  refine x_aload_n dX4_placeTaken_7 rfl ?_
  refine m_cv0 (c_isLetter (by omega) (by assumption)) fX4_isLetter q2319 (by decide) (Nat.le_of_ble_eq_true rfl) dX4_placeTaken_8 ?_
  refine x_if_eq_b (t := 37) dX4_placeTaken_11 (by decide) (fun c_11 => ?_) (fun c_11 => ?_)
  · skip
    have hno : ¬ (isLt (mSg K p) ∧ K 360 4 ≤ mSg K p - 97) := fun z => c_11 z.1
    refine x_iload_n dX4_placeTaken_37 rfl ?_
    refine x_bipush dX4_placeTaken_38 (by decide) ?_
    refine x_icmp_ne (t := 52) dX4_placeTaken_40 (by decide) (by omega) (fun c_40 => ?_) (fun c_40 => ?_)
    · skip
      rw [if_neg hno, if_neg c_40]
      refine x_aload_n dX4_placeTaken_52 rfl ?_
      first | rw [f3] | skip
      refine m_cv0 (c_isRightP (by omega)) fX4_isRight q2283 (by decide) (Nat.le_of_ble_eq_true rfl) dX4_placeTaken_53 ?_
      refine x_if_eq_b (t := 108) dX4_placeTaken_56 (by decide) (fun c_56 => ?_) (fun c_56 => ?_)
      · skip
        first | (exact absurd rfl c_56) | skip
        first | done | (refine x_vret rfl dX4_placeTaken_108 (Nat.le_refl _) (Nat.le_refl _) ?_; exact ⟨rfl, rfl, rfl⟩)
      · skip
        refine x_aload_n dX4_placeTaken_59 rfl ?_
        refine m_getA (kf := 11) 11 (a := 366) (by decide) rfl rfl q2126 rfl rfl dX4_placeTaken_60 ?_
        refine x_bipush dX4_placeTaken_63 (by decide) ?_
        refine x_iload_n dX4_placeTaken_65 rfl ?_
        refine x_imul dX4_placeTaken_66 ?_
        refine x_iload_n dX4_placeTaken_67 rfl ?_
        refine x_iadd dX4_placeTaken_68 ?_
        refine x_aload_n dX4_placeTaken_69 rfl ?_
        refine m_cv0 (c_isLetter (by omega) (by assumption)) fX4_isLetter q2319 (by decide) (Nat.le_of_ble_eq_true rfl) dX4_placeTaken_70 ?_
        refine x_if_eq_b (t := 86) dX4_placeTaken_73 (by decide) (fun c_73 => ?_) (fun c_73 => ?_)
        · skip
          refine x_iconst dX4_placeTaken_86 ?_
          refine x_top (plV (mSg K p)) (by unfold plV; first | rw [if_pos c_73] | rw [if_neg c_73]) ?_
          refine m_iast (n := 280) rfl rfl (by decide) (by omega) dX4_placeTaken_87 ?_
          rw [mP_u2 _ _ _ (by decide)]
          refine x_aload_n dX4_placeTaken_88 rfl ?_
          refine m_getA (kf := 10) 10 (a := 365) (by decide) rfl rfl q2125 rfl rfl dX4_placeTaken_89 ?_
          refine x_iload_n dX4_placeTaken_92 rfl ?_
          refine x_dup2 dX4_placeTaken_93 rfl rfl ?_
          refine m_iald (n := 28) rfl rfl (by decide) (by omega) dX4_placeTaken_94 ?_
          refine x_iconst dX4_placeTaken_95 ?_
          rw [mP_a _ _ _ (by decide), rr_u2_ne _ _ (by omega)]
          refine x_iadd dX4_placeTaken_96 ?_
          refine m_iast (n := 28) rfl rfl (by decide) (by omega) dX4_placeTaken_97 ?_
          rw [mP_u2 _ _ _ (by decide)]
          refine x_aload_n dX4_placeTaken_98 rfl ?_
          refine x_dup dX4_placeTaken_99 rfl ?_
          refine m_getI (kf := 2) 2 (by decide) rfl rfl q2117 rfl dX4_placeTaken_100 ?_
          refine x_iconst dX4_placeTaken_103 ?_
          rw [mP_p]
          refine x_iadd dX4_placeTaken_104 ?_
          refine m_putI (kf := 2) 2 (by decide) rfl rfl q2117 rfl rfl (rr_nar_i _) dX4_placeTaken_105 ?_
          refine x_vret rfl dX4_placeTaken_108 (Nat.le_refl _) (Nat.le_refl _) ?_
          first | exact ⟨rfl, rfl, rfl⟩ | exact ⟨rfl, by rw [mP_setp]; rfl, rfl⟩
        · skip
          refine x_aload_n dX4_placeTaken_76 rfl ?_
          refine m_cv0 (c_signP (by omega) (by assumption)) fX4_sign q2279 (by decide) (Nat.le_of_ble_eq_true rfl) dX4_placeTaken_77 ?_
          refine x_bipush dX4_placeTaken_80 (by decide) ?_
          refine x_isub dX4_placeTaken_82 ?_
          refine x_goto (t := 87) dX4_placeTaken_83 (by decide) ?_
          refine x_top (plV (mSg K p)) (by unfold plV; first | rw [if_pos c_73] | rw [if_neg c_73]) ?_
          refine m_iast (n := 280) rfl rfl (by decide) (by omega) dX4_placeTaken_87 ?_
          rw [mP_u2 _ _ _ (by decide)]
          refine x_aload_n dX4_placeTaken_88 rfl ?_
          refine m_getA (kf := 10) 10 (a := 365) (by decide) rfl rfl q2125 rfl rfl dX4_placeTaken_89 ?_
          refine x_iload_n dX4_placeTaken_92 rfl ?_
          refine x_dup2 dX4_placeTaken_93 rfl rfl ?_
          refine m_iald (n := 28) rfl rfl (by decide) (by omega) dX4_placeTaken_94 ?_
          refine x_iconst dX4_placeTaken_95 ?_
          rw [mP_a _ _ _ (by decide), rr_u2_ne _ _ (by omega)]
          refine x_iadd dX4_placeTaken_96 ?_
          refine m_iast (n := 28) rfl rfl (by decide) (by omega) dX4_placeTaken_97 ?_
          rw [mP_u2 _ _ _ (by decide)]
          refine x_aload_n dX4_placeTaken_98 rfl ?_
          refine x_dup dX4_placeTaken_99 rfl ?_
          refine m_getI (kf := 2) 2 (by decide) rfl rfl q2117 rfl dX4_placeTaken_100 ?_
          refine x_iconst dX4_placeTaken_103 ?_
          rw [mP_p]
          refine x_iadd dX4_placeTaken_104 ?_
          refine m_putI (kf := 2) 2 (by decide) rfl rfl q2117 rfl rfl (rr_nar_i _) dX4_placeTaken_105 ?_
          refine x_vret rfl dX4_placeTaken_108 (Nat.le_refl _) (Nat.le_refl _) ?_
          first | exact ⟨rfl, rfl, rfl⟩ | exact ⟨rfl, by rw [mP_setp]; rfl, rfl⟩
    · skip
      rw [if_neg hno, if_pos c_40]
      refine x_aload_n dX4_placeTaken_43 rfl ?_
      refine x_iconst dX4_placeTaken_44 ?_
      refine x_aload_n dX4_placeTaken_45 rfl ?_
      refine m_getI (kf := 2) 2 (by decide) rfl rfl q2117 rfl dX4_placeTaken_46 ?_
      rw [mP_p]
      refine m_cw2 (c_failsP (by omega)) fX4_fails q2302 (by decide) (Nat.le_of_ble_eq_true rfl) dX4_placeTaken_49 ?_
      refine x_aload_n dX4_placeTaken_52 rfl ?_
      first | rw [f3] | skip
      refine m_cv0 (c_isRightP (by omega)) fX4_isRight q2283 (by decide) (Nat.le_of_ble_eq_true rfl) dX4_placeTaken_53 ?_
      refine x_if_eq_b (t := 108) dX4_placeTaken_56 (by decide) (fun c_56 => ?_) (fun c_56 => ?_)
      · skip
        first | (exact absurd rfl c_56) | skip
        first | done | (refine x_vret rfl dX4_placeTaken_108 (Nat.le_refl _) (Nat.le_refl _) ?_; exact ⟨rfl, rfl, rfl⟩)
      · skip
        exfalso; omega
  · skip
    refine x_aload_n dX4_placeTaken_14 rfl ?_
    refine m_cv0 (c_signP (by omega) (by assumption)) fX4_sign q2279 (by decide) (Nat.le_of_ble_eq_true rfl) dX4_placeTaken_15 ?_
    refine x_bipush dX4_placeTaken_18 (by decide) ?_
    refine x_isub dX4_placeTaken_20 ?_
    refine x_aload_n dX4_placeTaken_21 rfl ?_
    refine m_getI (kf := 4) 4 (by decide) rfl rfl q2119 rfl dX4_placeTaken_22 ?_
    rw [e4]
    refine x_icmp_lt (t := 37) dX4_placeTaken_25 (by decide) (by omega) (fun c_25 => ?_) (fun c_25 => ?_)
    · skip
      have hno : ¬ (isLt (mSg K p) ∧ K 360 4 ≤ mSg K p - 97) := by omega
      refine x_iload_n dX4_placeTaken_37 rfl ?_
      refine x_bipush dX4_placeTaken_38 (by decide) ?_
      refine x_icmp_ne (t := 52) dX4_placeTaken_40 (by decide) (by omega) (fun c_40 => ?_) (fun c_40 => ?_)
      · skip
        rw [if_neg hno, if_neg c_40]
        refine x_aload_n dX4_placeTaken_52 rfl ?_
        first | rw [f3] | skip
        refine m_cv0 (c_isRightP (by omega)) fX4_isRight q2283 (by decide) (Nat.le_of_ble_eq_true rfl) dX4_placeTaken_53 ?_
        refine x_if_eq_b (t := 108) dX4_placeTaken_56 (by decide) (fun c_56 => ?_) (fun c_56 => ?_)
        · skip
          first | (exact absurd rfl c_56) | skip
          first | done | (refine x_vret rfl dX4_placeTaken_108 (Nat.le_refl _) (Nat.le_refl _) ?_; exact ⟨rfl, rfl, rfl⟩)
        · skip
          refine x_aload_n dX4_placeTaken_59 rfl ?_
          refine m_getA (kf := 11) 11 (a := 366) (by decide) rfl rfl q2126 rfl rfl dX4_placeTaken_60 ?_
          refine x_bipush dX4_placeTaken_63 (by decide) ?_
          refine x_iload_n dX4_placeTaken_65 rfl ?_
          refine x_imul dX4_placeTaken_66 ?_
          refine x_iload_n dX4_placeTaken_67 rfl ?_
          refine x_iadd dX4_placeTaken_68 ?_
          refine x_aload_n dX4_placeTaken_69 rfl ?_
          refine m_cv0 (c_isLetter (by omega) (by assumption)) fX4_isLetter q2319 (by decide) (Nat.le_of_ble_eq_true rfl) dX4_placeTaken_70 ?_
          refine x_if_eq_b (t := 86) dX4_placeTaken_73 (by decide) (fun c_73 => ?_) (fun c_73 => ?_)
          · skip
            refine x_iconst dX4_placeTaken_86 ?_
            refine x_top (plV (mSg K p)) (by unfold plV; first | rw [if_pos c_73] | rw [if_neg c_73]) ?_
            refine m_iast (n := 280) rfl rfl (by decide) (by omega) dX4_placeTaken_87 ?_
            rw [mP_u2 _ _ _ (by decide)]
            refine x_aload_n dX4_placeTaken_88 rfl ?_
            refine m_getA (kf := 10) 10 (a := 365) (by decide) rfl rfl q2125 rfl rfl dX4_placeTaken_89 ?_
            refine x_iload_n dX4_placeTaken_92 rfl ?_
            refine x_dup2 dX4_placeTaken_93 rfl rfl ?_
            refine m_iald (n := 28) rfl rfl (by decide) (by omega) dX4_placeTaken_94 ?_
            refine x_iconst dX4_placeTaken_95 ?_
            rw [mP_a _ _ _ (by decide), rr_u2_ne _ _ (by omega)]
            refine x_iadd dX4_placeTaken_96 ?_
            refine m_iast (n := 28) rfl rfl (by decide) (by omega) dX4_placeTaken_97 ?_
            rw [mP_u2 _ _ _ (by decide)]
            refine x_aload_n dX4_placeTaken_98 rfl ?_
            refine x_dup dX4_placeTaken_99 rfl ?_
            refine m_getI (kf := 2) 2 (by decide) rfl rfl q2117 rfl dX4_placeTaken_100 ?_
            refine x_iconst dX4_placeTaken_103 ?_
            rw [mP_p]
            refine x_iadd dX4_placeTaken_104 ?_
            refine m_putI (kf := 2) 2 (by decide) rfl rfl q2117 rfl rfl (rr_nar_i _) dX4_placeTaken_105 ?_
            refine x_vret rfl dX4_placeTaken_108 (Nat.le_refl _) (Nat.le_refl _) ?_
            first | exact ⟨rfl, rfl, rfl⟩ | exact ⟨rfl, by rw [mP_setp]; rfl, rfl⟩
          · skip
            refine x_aload_n dX4_placeTaken_76 rfl ?_
            refine m_cv0 (c_signP (by omega) (by assumption)) fX4_sign q2279 (by decide) (Nat.le_of_ble_eq_true rfl) dX4_placeTaken_77 ?_
            refine x_bipush dX4_placeTaken_80 (by decide) ?_
            refine x_isub dX4_placeTaken_82 ?_
            refine x_goto (t := 87) dX4_placeTaken_83 (by decide) ?_
            refine x_top (plV (mSg K p)) (by unfold plV; first | rw [if_pos c_73] | rw [if_neg c_73]) ?_
            refine m_iast (n := 280) rfl rfl (by decide) (by omega) dX4_placeTaken_87 ?_
            rw [mP_u2 _ _ _ (by decide)]
            refine x_aload_n dX4_placeTaken_88 rfl ?_
            refine m_getA (kf := 10) 10 (a := 365) (by decide) rfl rfl q2125 rfl rfl dX4_placeTaken_89 ?_
            refine x_iload_n dX4_placeTaken_92 rfl ?_
            refine x_dup2 dX4_placeTaken_93 rfl rfl ?_
            refine m_iald (n := 28) rfl rfl (by decide) (by omega) dX4_placeTaken_94 ?_
            refine x_iconst dX4_placeTaken_95 ?_
            rw [mP_a _ _ _ (by decide), rr_u2_ne _ _ (by omega)]
            refine x_iadd dX4_placeTaken_96 ?_
            refine m_iast (n := 28) rfl rfl (by decide) (by omega) dX4_placeTaken_97 ?_
            rw [mP_u2 _ _ _ (by decide)]
            refine x_aload_n dX4_placeTaken_98 rfl ?_
            refine x_dup dX4_placeTaken_99 rfl ?_
            refine m_getI (kf := 2) 2 (by decide) rfl rfl q2117 rfl dX4_placeTaken_100 ?_
            refine x_iconst dX4_placeTaken_103 ?_
            rw [mP_p]
            refine x_iadd dX4_placeTaken_104 ?_
            refine m_putI (kf := 2) 2 (by decide) rfl rfl q2117 rfl rfl (rr_nar_i _) dX4_placeTaken_105 ?_
            refine x_vret rfl dX4_placeTaken_108 (Nat.le_refl _) (Nat.le_refl _) ?_
            first | exact ⟨rfl, rfl, rfl⟩ | exact ⟨rfl, by rw [mP_setp]; rfl, rfl⟩
      · skip
        rw [if_neg hno, if_pos c_40]
        refine x_aload_n dX4_placeTaken_43 rfl ?_
        refine x_iconst dX4_placeTaken_44 ?_
        refine x_aload_n dX4_placeTaken_45 rfl ?_
        refine m_getI (kf := 2) 2 (by decide) rfl rfl q2117 rfl dX4_placeTaken_46 ?_
        rw [mP_p]
        refine m_cw2 (c_failsP (by omega)) fX4_fails q2302 (by decide) (Nat.le_of_ble_eq_true rfl) dX4_placeTaken_49 ?_
        refine x_aload_n dX4_placeTaken_52 rfl ?_
        first | rw [f3] | skip
        refine m_cv0 (c_isRightP (by omega)) fX4_isRight q2283 (by decide) (Nat.le_of_ble_eq_true rfl) dX4_placeTaken_53 ?_
        refine x_if_eq_b (t := 108) dX4_placeTaken_56 (by decide) (fun c_56 => ?_) (fun c_56 => ?_)
        · skip
          first | (exact absurd rfl c_56) | skip
          first | done | (refine x_vret rfl dX4_placeTaken_108 (Nat.le_refl _) (Nat.le_refl _) ?_; exact ⟨rfl, rfl, rfl⟩)
        · skip
          exfalso; omega
    · skip
      have hyes : isLt (mSg K p) ∧ K 360 4 ≤ mSg K p - 97 := ⟨c_11, by omega⟩
      refine x_aload_n dX4_placeTaken_28 rfl ?_
      refine x_iconst dX4_placeTaken_29 ?_
      refine x_aload_n dX4_placeTaken_30 rfl ?_
      refine m_getI (kf := 2) 2 (by decide) rfl rfl q2117 rfl dX4_placeTaken_31 ?_
      rw [mP_p]
      refine m_cw2 (c_failsP (by omega)) fX4_fails q2302 (by decide) (Nat.le_of_ble_eq_true rfl) dX4_placeTaken_34 ?_
      rw [f2, if_pos hyes]
      refine x_iload_n dX4_placeTaken_37 rfl ?_
      refine x_bipush dX4_placeTaken_38 (by decide) ?_
      refine x_icmp_ne (t := 52) dX4_placeTaken_40 (by decide) (by omega) (fun c_40 => ?_) (fun c_40 => ?_)
      · skip
        refine x_aload_n dX4_placeTaken_52 rfl ?_
        refine m_cv0 (c_isRightP (by omega)) fX4_isRight q2283 (by decide) (Nat.le_of_ble_eq_true rfl) dX4_placeTaken_53 ?_
        refine x_if_eq_b (t := 108) dX4_placeTaken_56 (by decide) (fun c_56 => ?_) (fun c_56 => ?_)
        · skip
          refine x_vret rfl dX4_placeTaken_108 (Nat.le_refl _) (Nat.le_refl _) ?_
          exact ⟨rfl, rfl, rfl⟩
        · skip
          exfalso; omega
      · skip
        refine x_aload_n dX4_placeTaken_43 rfl ?_
        refine x_iconst dX4_placeTaken_44 ?_
        refine x_aload_n dX4_placeTaken_45 rfl ?_
        refine m_getI (kf := 2) 2 (by decide) rfl rfl q2117 rfl dX4_placeTaken_46 ?_
        rw [mP_p]
        refine m_cw2 (c_failsP (by omega)) fX4_fails q2302 (by decide) (Nat.le_of_ble_eq_true rfl) dX4_placeTaken_49 ?_
        rw [f23]
        refine x_aload_n dX4_placeTaken_52 rfl ?_
        refine m_cv0 (c_isRightP (by omega)) fX4_isRight q2283 (by decide) (Nat.le_of_ble_eq_true rfl) dX4_placeTaken_53 ?_
        refine x_if_eq_b (t := 108) dX4_placeTaken_56 (by decide) (fun c_56 => ?_) (fun c_56 => ?_)
        · refine x_vret rfl dX4_placeTaken_108 (Nat.le_refl _) (Nat.le_refl _) ?_
          exact ⟨rfl, rfl, rfl⟩
        · exfalso; omega
