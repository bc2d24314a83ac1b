set_option maxRecDepth 100000
/-! THE MODEL's methods, 1 -/
noncomputable def bi (P : Prop) : Int := @ite Int P (Classical.propDecidable P) 1 0
theorem bi_01 (P : Prop) : bi P = 0 ∨ bi P = 1 := by unfold bi; split <;> simp
theorem bi_t {P : Prop} (h : P) : bi P = 1 := @if_pos P (Classical.propDecidable P) h Int 1 0
theorem bi_f {P : Prop} (h : ¬ P) : bi P = 0 := @if_neg P (Classical.propDecidable P) h Int 1 0
theorem rT {P : Prop} (h : P) : some (vI 1) = some (vI (bi P)) := by rw [bi_t h]
theorem rF {P : Prop} (h : ¬ P) : some (vI 0) = some (vI (bi P)) := by rw [bi_f h]
section BI
variable {G : rr_G} {y : MethodName} {cc : ByteArray} {nL : Nat} {ret : Option FieldType} {d mc ms : Nat} {Post : Option rr_V → rr_H → Nat → Prop} {Q : List Frame → Array Value → State → State → Prop} {pc : Nat} {ls : List (Option rr_V)} {st : List rr_V} {h : rr_H} {nx cu su : Nat}
theorem x_if_eq_b {P : Prop} {o : Int} {t : Nat} (dg : decode cc pc = .ok (.ifCond .eq o, 3)) (ht : (pc : Int) + o = (t : Int)) (kt : ¬ P → rr_R G y cc nL ret d mc ms Q t ls st h nx cu su) (kf : P → rr_R G y cc nL ret d mc ms Q (pc + 3) ls st h nx cu su) : rr_R G y cc nL ret d mc ms Q pc ls (vI (bi P) :: st) h nx cu su := by
  by_cases hP : P
  · rw [bi_t hP]
    exact x_if_eq dg ht (by omega) (fun q => absurd q (by decide)) (fun _ => kf hP)
  · rw [bi_f hP]
    exact x_if_eq dg ht (by omega) (fun _ => kt hP) (fun q => absurd rfl q)
theorem x_if_ne_b {P : Prop} {o : Int} {t : Nat} (dg : decode cc pc = .ok (.ifCond .ne o, 3)) (ht : (pc : Int) + o = (t : Int)) (kt : P → rr_R G y cc nL ret d mc ms Q t ls st h nx cu su) (kf : ¬ P → rr_R G y cc nL ret d mc ms Q (pc + 3) ls st h nx cu su) : rr_R G y cc nL ret d mc ms Q pc ls (vI (bi P) :: st) h nx cu su := by
  by_cases hP : P
  · rw [bi_t hP]
    exact x_if_ne dg ht (by omega) (fun _ => kt hP) (fun q => absurd q (by decide))
  · rw [bi_f hP]
    exact x_if_ne dg ht (by omega) (fun q => absurd rfl q) (fun _ => kf hP)
end BI
/-- g at i, i+1 .., n times -/
def itN {α : Type} (g : Int → α → α) : Nat → Int → α → α
  | 0, _, a => a
  | n + 1, i, a => itN g n (i + 1) (g i a)
/-- g at lo, .. hi-1 -/
def itr {α : Type} (g : Int → α → α) (lo hi : Int) (a : α) : α := itN g (hi - lo).toNat lo a
theorem itr_stop {α : Type} (g : Int → α → α) {lo hi : Int} (a : α) (h : hi ≤ lo) : itr g lo hi a = a := by
  unfold itr
  rw [show (hi - lo).toNat = 0 by omega]
  rfl
theorem itr_step {α : Type} (g : Int → α → α) {lo hi : Int} (a : α) (h : lo < hi) : itr g lo hi a = itr g (lo + 1) hi (g lo a) := by
  unfold itr
  rw [show (hi - lo).toNat = (hi - (lo + 1)).toNat + 1 by omega]
  rfl
/-- a counting loop: what is left to do comes to fin -/
theorem rr_for {α : Type} {g : Int → α → α} {hi : Int} {fin : α} {P : Int → α → Prop} {W : Int → α → Prop} (hx : ∀ i, hi ≤ i → P i fin → W i fin) (hs : ∀ i a, i < hi → P i a → (P (i + 1) (g i a) → W (i + 1) (g i a)) → W i a) : ∀ i a, itr g i hi a = fin → P i a → W i a := by
  have key : ∀ (n : Nat) i a, (hi - i).toNat = n → itr g i hi a = fin → P i a → W i a := by
    intro n
    induction n with
    | zero =>
      intro i a hn h1 h2
      rw [itr_stop g a (by omega)] at h1
      subst h1
      exact hx i (by omega) h2
    | succ n ih =>
      intro i a hn h1 h2
      rw [itr_step g a (by omega)] at h1
      exact hs i a (by omega) h2 (fun h3 => ih (i + 1) (g i a) (by omega) h1 h3)
  intro i a
  exact key _ i a rfl
theorem c_in {I : Nat → Int → Int} {v lo hi : Int} (h1 : -2147483648 ≤ v ∧ v < 2147483648) (h2 : -2147483648 ≤ lo ∧ lo < 2147483648) (h3 : -2147483648 ≤ hi ∧ hi < 2147483648) : mC yX4_in cX4_in 3 (some FieldType.boolean) 0 [vI v, vI lo, vI hi] I (some (vI (bi (lo ≤ v ∧ v ≤ hi)))) I := by
  refine mC.of (by decide) rfl (Nat.le_of_ble_eq_true rfl) (fun G nx => ?_)
  refine x_ls (ls2 := [some (vI v), some (vI lo), some (vI hi)]) rfl ?_
  refine x_iload_n dX4_in_0 rfl ?_
  refine x_iload_n dX4_in_1 rfl ?_
  refine x_icmp_lt (t := 14) dX4_in_2 (by decide) (by omega) (fun c_2 => ?_) (fun c_2 => ?_)
  · skip
    refine x_iconst dX4_in_14 ?_
    refine x_zret rfl dX4_in_15 (by first | exact Or.inl rfl | exact Or.inr rfl | exact bi_01 _ | omega) (Nat.le_refl _) (Nat.le_refl _) ?_
    exact ⟨by first | rfl | exact rT (by omega) | exact rF (by omega), rfl, rfl⟩
  · skip
    refine x_iload_n dX4_in_5 rfl ?_
    refine x_iload_n dX4_in_6 rfl ?_
    refine x_icmp_gt (t := 14) dX4_in_7 (by decide) (by omega) (fun c_7 => ?_) (fun c_7 => ?_)
    · skip
      refine x_iconst dX4_in_14 ?_
      refine x_zret rfl dX4_in_15 (by first | exact Or.inl rfl | exact Or.inr rfl | exact bi_01 _ | omega) (Nat.le_refl _) (Nat.le_refl _) ?_
      exact ⟨by first | rfl | exact rT (by omega) | exact rF (by omega), rfl, rfl⟩
    · skip
      refine x_iconst dX4_in_10 ?_
      refine x_goto (t := 15) dX4_in_11 (by decide) ?_
      refine x_zret rfl dX4_in_15 (by first | exact Or.inl rfl | exact Or.inr rfl | exact bi_01 _ | omega) (Nat.le_refl _) (Nat.le_refl _) ?_
      exact ⟨by first | rfl | exact rT (by omega) | exact rF (by omega), rfl, rfl⟩
theorem c_truth {I : Nat → Int → Int} {P : Prop} : mC yX4_truth cX4_truth 1 (some FieldType.int) 0 [vI (bi P)] I (some (vI (bi P))) I := by
  refine mC.of (by decide) rfl (Nat.le_of_ble_eq_true rfl) (fun G nx => ?_)
  refine x_ls (ls2 := [some (vI (bi P))]) rfl ?_
  by_cases hP : P
  · rw [bi_t hP]
    refine x_iload_n dX4_truth_0 rfl ?_
    refine x_if_eq (t := 8) dX4_truth_1 (by decide) (by omega) (fun c_1 => absurd c_1 (by decide)) (fun c_1 => ?_)
    refine x_iconst dX4_truth_4 ?_
    refine x_goto (t := 9) dX4_truth_5 (by decide) ?_
    refine x_iret rfl dX4_truth_9 (Nat.le_refl _) (Nat.le_refl _) ?_
    exact ⟨rfl, rfl, rfl⟩
  · rw [bi_f hP]
    refine x_iload_n dX4_truth_0 rfl ?_
    refine x_if_eq (t := 8) dX4_truth_1 (by decide) (by omega) (fun c_1 => ?_) (fun c_1 => absurd (rfl) c_1)
    refine x_iconst dX4_truth_8 ?_
    refine x_iret rfl dX4_truth_9 (Nat.le_refl _) (Nat.le_refl _) ?_
    exact ⟨rfl, rfl, rfl⟩
/-- the tape's sign at a place -/
def mSg (I : Nat → Int → Int) (p : Int) : Int := if p < I 360 1 then rr_and (I 361 p) 255 else -1
theorem c_sign {I : Nat → Int → Int} (h1 : 0 ≤ I 360 2 ∧ I 360 2 < 2147483648) (h2 : 0 ≤ I 360 1 ∧ I 360 1 ≤ 300) : mC yX4_sign cX4_sign 1 (some FieldType.int) 0 [vR (some 360)] I (some (vI (mSg I (I 360 2)))) I := by
  refine mC.of (by decide) rfl (Nat.le_of_ble_eq_true rfl) (fun G nx => ?_)
  refine x_ls (ls2 := [some (vR (some 360))]) rfl ?_
  refine x_aload_n dX4_sign_0 rfl ?_
  refine m_getI (kf := 2) 2 (by decide) rfl rfl q2117 rfl dX4_sign_1 ?_
  refine x_aload_n dX4_sign_4 rfl ?_
  refine m_getI (kf := 1) 1 (by decide) rfl rfl q2116 rfl dX4_sign_5 ?_
  refine x_icmp_ge (t := 27) dX4_sign_8 (by decide) (by omega) (fun c_8 => ?_) (fun c_8 => ?_)
  · skip
    refine x_iconst dX4_sign_27 ?_
    refine x_iret rfl dX4_sign_28 (Nat.le_refl _) (Nat.le_refl _) ?_
    exact ⟨by simp only [mSg]; first | rw [if_pos (by omega)] | rw [if_neg (by omega)], rfl, rfl⟩
  · skip
    refine x_aload_n dX4_sign_11 rfl ?_
    refine m_getA (kf := 0) 0 (a := 361) (by decide) rfl rfl q2115 rfl rfl dX4_sign_12 ?_
    refine x_aload_n dX4_sign_15 rfl ?_
    refine m_getI (kf := 2) 2 (by decide) rfl rfl q2117 rfl dX4_sign_16 ?_
    refine m_bald (n := 300) rfl rfl (by decide) (by omega) dX4_sign_19 ?_
    refine x_sipush dX4_sign_20 (by decide) ?_
    refine x_iand dX4_sign_23 ?_
    refine x_goto (t := 28) dX4_sign_24 (by decide) ?_
    refine x_iret rfl dX4_sign_28 (Nat.le_refl _) (Nat.le_refl _) ?_
    exact ⟨by simp only [mSg]; first | rw [if_pos (by omega)] | rw [if_neg (by omega)], rfl, rfl⟩
def mFails (I : Nat → Int → Int) (kind place : Int) : Nat → Int → Int := if I 360 3 = -1 then rr_u2 I 360 3 (8 * place + kind) else I
theorem c_fails {I : Nat → Int → Int} {kind place : Int} (h : -2147483648 ≤ I 360 3 ∧ I 360 3 < 2147483648) : mC yX4_fails cX4_fails 3 none 0 [vR (some 360), vI kind, vI place] I none (mFails I kind place) := by
  refine mC.of (by decide) rfl (Nat.le_of_ble_eq_true rfl) (fun G nx => ?_)
  refine x_ls (ls2 := [some (vR (some 360)), some (vI kind), some (vI place)]) rfl ?_
  refine x_aload_n dX4_fails_0 rfl ?_
  refine m_getI (kf := 3) 3 (by decide) rfl rfl q2118 rfl dX4_fails_1 ?_
  refine x_iconst dX4_fails_4 ?_
  refine x_icmp_ne (t := 18) dX4_fails_5 (by decide) (by omega) (fun c_5 => ?_) (fun c_5 => ?_)
  · skip
    refine x_vret rfl dX4_fails_18 (Nat.le_refl _) (Nat.le_refl _) ?_
    exact ⟨rfl, by simp only [mFails]; first | rw [if_pos (by omega)] | rw [if_neg (by omega)], rfl⟩
  · skip
    refine x_aload_n dX4_fails_8 rfl ?_
    refine x_bipush dX4_fails_9 (by decide) ?_
    refine x_iload_n dX4_fails_11 rfl ?_
    refine x_imul dX4_fails_12 ?_
    refine x_iload_n dX4_fails_13 rfl ?_
    refine x_iadd dX4_fails_14 ?_
    refine m_putI (kf := 3) 3 (by decide) rfl rfl q2118 rfl rfl (rr_nar_i _) dX4_fails_15 ?_
    refine x_vret rfl dX4_fails_18 (Nat.le_refl _) (Nat.le_refl _) ?_
    exact ⟨rfl, by simp only [mFails]; first | rw [if_pos (by omega)] | rw [if_neg (by omega)], rfl⟩
theorem c_isRight {I : Nat → Int → Int} (h : -2147483648 ≤ I 360 3 ∧ I 360 3 < 2147483648) : mC yX4_isRight cX4_isRight 1 (some FieldType.boolean) 0 [vR (some 360)] I (some (vI (bi (I 360 3 = -1)))) I := by
  refine mC.of (by decide) rfl (Nat.le_of_ble_eq_true rfl) (fun G nx => ?_)
  refine x_ls (ls2 := [some (vR (some 360))]) rfl ?_
  refine x_aload_n dX4_isRight_0 rfl ?_
  refine m_getI (kf := 3) 3 (by decide) rfl rfl q2118 rfl dX4_isRight_1 ?_
  refine x_iconst dX4_isRight_4 ?_
  refine x_icmp_ne (t := 12) dX4_isRight_5 (by decide) (by omega) (fun c_5 => ?_) (fun c_5 => ?_)
  · skip
    refine x_iconst dX4_isRight_12 ?_
    refine x_zret rfl dX4_isRight_13 (by first | exact Or.inl rfl | exact Or.inr rfl | exact bi_01 _ | omega) (Nat.le_refl _) (Nat.le_refl _) ?_
    exact ⟨by first | rfl | exact rT (by omega) | exact rF (by omega), rfl, rfl⟩
  · skip
    refine x_iconst dX4_isRight_8 ?_
    refine x_goto (t := 13) dX4_isRight_9 (by decide) ?_
    refine x_zret rfl dX4_isRight_13 (by first | exact Or.inl rfl | exact Or.inr rfl | exact bi_01 _ | omega) (Nat.le_refl _) (Nat.le_refl _) ?_
    exact ⟨by first | rfl | exact rT (by omega) | exact rF (by omega), rfl, rfl⟩
def m_dotOf (I : Nat → Int → Int) (f x y : Int) : Int := rr_and (rr_shr (I 362 (5 * f + (y + 5) % 5)) ((x + 5) % 5)) 1
theorem c_dotOf {I : Nat → Int → Int} {f x y : Int} (hf : 0 ≤ f ∧ f < 20) (hx : -1 ≤ x ∧ x ≤ 5) (hy : -1 ≤ y ∧ y ≤ 5) : mC yX4_dotOf cX4_dotOf 4 (some FieldType.int) 0 [vR (some 360), vI f, vI x, vI y] I (some (vI (m_dotOf I f x y))) I := by
  refine mC.of (by decide) rfl (Nat.le_of_ble_eq_true rfl) (fun G nx => ?_)
  refine x_ls (ls2 := [some (vR (some 360)), some (vI f), some (vI x), some (vI y)]) rfl ?_
  refine x_aload_n dX4_dotOf_0 rfl ?_
  refine m_getA (kf := 6) 6 (a := 362) (by decide) rfl rfl q2121 rfl rfl dX4_dotOf_1 ?_
  refine x_iconst dX4_dotOf_4 ?_
  refine x_iload_n dX4_dotOf_5 rfl ?_
  refine x_imul dX4_dotOf_6 ?_
  refine x_iload_n dX4_dotOf_7 rfl ?_
  refine x_iconst dX4_dotOf_8 ?_
  refine x_iadd dX4_dotOf_9 ?_
  refine x_iconst dX4_dotOf_10 ?_
  refine x_irem dX4_dotOf_11 (by omega) (by omega) ?_
  refine x_iadd dX4_dotOf_12 ?_
  refine m_iald (n := 100) rfl rfl (by decide) (by omega) dX4_dotOf_13 ?_
  refine x_iload_n dX4_dotOf_14 rfl ?_
  refine x_iconst dX4_dotOf_15 ?_
  refine x_iadd dX4_dotOf_16 ?_
  refine x_iconst dX4_dotOf_17 ?_
  refine x_irem dX4_dotOf_18 (by omega) (by omega) ?_
  refine x_ishr dX4_dotOf_19 ?_
  refine x_iconst dX4_dotOf_20 ?_
  refine x_iand dX4_dotOf_21 ?_
  refine x_iret rfl dX4_dotOf_22 (Nat.le_refl _) (Nat.le_refl _) ?_
  exact ⟨rfl, rfl, rfl⟩
def m_unlikeBy (I : Nat → Int → Int) (f g r e : Int) : Int := itr (fun y n => itr (fun x n => n + rr_xor (m_dotOf I f x y) (m_dotOf I g (x + r) (y + e))) 0 5 n) 0 5 0
theorem c_unlikeBy {I : Nat → Int → Int} {f g r e : Int} (hf : 0 ≤ f ∧ f < 20) (hg : 0 ≤ g ∧ g < 20) (hr : -1 ≤ r ∧ r ≤ 1) (he : -1 ≤ e ∧ e ≤ 1) : mC yX4_unlikeBy cX4_unlikeBy 8 (some FieldType.int) 1 [vR (some 360), vI f, vI g, vI r, vI e] I (some (vI (m_unlikeBy I f g r e))) I := by
  refine mC.of (by decide) rfl (Nat.le_of_ble_eq_true rfl) (fun G nx => ?_)
  refine x_ls (ls2 := [some (vR (some 360)), some (vI f), some (vI g), some (vI r), some (vI e), none, none, none]) rfl ?_
  refine x_iconst dX4_unlikeBy_0 ?_
  refine x_istore dX4_unlikeBy_1 (by decide) ?_
  refine x_iconst dX4_unlikeBy_3 ?_
  refine x_istore dX4_unlikeBy_4 (by decide) ?_
  refine x_loc (ls2 := [some (vR (some 360)), some (vI f), some (vI g), some (vI r), some (vI e), some (vI 0), some (vI 0), none]) (by repeat first | exact trivial | refine ⟨Or.inr rfl, ?_⟩ | refine ⟨Or.inl rfl, ?_⟩) ?_
  refine rr_for (g := fun y n => itr (fun x n => n + rr_xor (m_dotOf I f x y) (m_dotOf I g (x + r) (y + e))) 0 5 n) (hi := 5) (P := fun i _ => 0 ≤ i ∧ i ≤ 5) (W := fun i a => mm G yX4_unlikeBy cX4_unlikeBy 8 (some FieldType.int) 1 nx _ _ 6 [some (vR (some 360)), some (vI f), some (vI g), some (vI r), some (vI e), some (vI a), some (vI i), none] [] I) ?_ ?_ 0 0 rfl (by omega)
  · intro i hi hp
    refine x_iload dX4_unlikeBy_6 rfl ?_
    refine x_iconst dX4_unlikeBy_8 ?_
    refine x_icmp_ge (t := 62) dX4_unlikeBy_9 (by decide) (by omega) (fun c_9 => ?_) (fun c_9 => absurd (by omega) c_9)
    refine x_iload dX4_unlikeBy_62 rfl ?_
    refine x_iret rfl dX4_unlikeBy_64 (Nat.le_refl _) (Nat.le_refl _) ?_
    exact ⟨rfl, rfl, rfl⟩
  · intro y n hy hp ih
    refine x_iload dX4_unlikeBy_6 rfl ?_
    refine x_iconst dX4_unlikeBy_8 ?_
    refine x_icmp_ge (t := 62) dX4_unlikeBy_9 (by decide) (by omega) (fun c_9 => absurd c_9 (by omega)) (fun c_9 => ?_)
    refine x_iconst dX4_unlikeBy_12 ?_
    refine x_istore dX4_unlikeBy_13 (by decide) ?_
    refine rr_for (g := fun x n => n + rr_xor (m_dotOf I f x y) (m_dotOf I g (x + r) (y + e))) (hi := 5) (P := fun i _ => 0 ≤ i ∧ i ≤ 5) (W := fun i a => mm G yX4_unlikeBy cX4_unlikeBy 8 (some FieldType.int) 1 nx _ _ 15 [some (vR (some 360)), some (vI f), some (vI g), some (vI r), some (vI e), some (vI a), some (vI y), some (vI i)] [] I) ?_ ?_ 0 n rfl (by omega)
    · intro i hi hp
      refine x_iload dX4_unlikeBy_15 rfl ?_
      refine x_iconst dX4_unlikeBy_17 ?_
      refine x_icmp_ge (t := 56) dX4_unlikeBy_18 (by decide) (by omega) (fun c_18 => ?_) (fun c_18 => absurd (by omega) c_18)
      refine x_iinc dX4_unlikeBy_56 rfl (by decide) ?_
      refine x_goto (t := 6) dX4_unlikeBy_59 (by decide) ?_
      exact x_loc (by repeat first | exact trivial | refine ⟨Or.inr rfl, ?_⟩ | refine ⟨Or.inl rfl, ?_⟩) (ih (by omega))
    · intro x n hx hp ih2
      refine x_iload dX4_unlikeBy_15 rfl ?_
      refine x_iconst dX4_unlikeBy_17 ?_
      refine x_icmp_ge (t := 56) dX4_unlikeBy_18 (by decide) (by omega) (fun c_18 => absurd c_18 (by omega)) (fun c_18 => ?_)
      refine x_iload dX4_unlikeBy_21 rfl ?_
      refine x_aload_n dX4_unlikeBy_23 rfl ?_
      refine x_iload_n dX4_unlikeBy_24 rfl ?_
      refine x_iload dX4_unlikeBy_25 rfl ?_
      refine x_iload dX4_unlikeBy_27 rfl ?_
      refine m_cv3 (c_dotOf (by omega) (by omega) (by omega)) fX4_dotOf q2418 (by decide) (Nat.le_of_ble_eq_true rfl) dX4_unlikeBy_29 ?_
      refine x_aload_n dX4_unlikeBy_32 rfl ?_
      refine x_iload_n dX4_unlikeBy_33 rfl ?_
      refine x_iload dX4_unlikeBy_34 rfl ?_
      refine x_iload_n dX4_unlikeBy_36 rfl ?_
      refine x_iadd dX4_unlikeBy_37 ?_
      refine x_iload dX4_unlikeBy_38 rfl ?_
      refine x_iload dX4_unlikeBy_40 rfl ?_
      refine x_iadd dX4_unlikeBy_42 ?_
      refine m_cv3 (c_dotOf (by omega) (by omega) (by omega)) fX4_dotOf q2418 (by decide) (Nat.le_of_ble_eq_true rfl) dX4_unlikeBy_43 ?_
      refine x_ixor dX4_unlikeBy_46 ?_
      refine x_iadd dX4_unlikeBy_47 ?_
      refine x_istore dX4_unlikeBy_48 (by decide) ?_
      refine x_iinc dX4_unlikeBy_50 rfl (by decide) ?_
      refine x_goto (t := 15) dX4_unlikeBy_53 (by decide) ?_
      exact ih2 (by omega)
