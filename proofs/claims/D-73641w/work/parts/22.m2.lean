set_option maxRecDepth 100000
/-! THE MODEL's methods, 2: the tape, forms -/
theorem rr_u2_eq {α : Type} {I J : Nat → Int → α} (h : ∀ x j, I x j = J x j) : I = J := funext fun x => funext fun j => h x j
theorem mh_eq {I J : Nat → Int → Int} (h : ∀ x j, I x j = J x j) : mh I = mh J := by rw [rr_u2_eq h]
/-- p and fault are set -/
def mP (I : Nat → Int → Int) (p f : Int) : Nat → Int → Int := fun x j => if x = 360 ∧ j = 2 then p else if x = 360 ∧ j = 3 then f else I x j
theorem mP_p (I : Nat → Int → Int) (p f : Int) : mP I p f 360 2 = p := by simp [mP]
theorem mP_f (I : Nat → Int → Int) (p f : Int) : mP I p f 360 3 = f := by simp [mP]
theorem mP_o (I : Nat → Int → Int) (p f : Int) {j : Int} (h : j ≠ 2) (h2 : j ≠ 3) : mP I p f 360 j = I 360 j := by simp [mP, h, h2]
theorem mP_a (I : Nat → Int → Int) (p f : Int) {x : Nat} (h : x ≠ 360) (j : Int) : mP I p f x j = I x j := by simp [mP, h]
theorem mP_mP (I : Nat → Int → Int) (p f q g : Int) : mP (mP I p f) q g = mP I q g := by
  apply rr_u2_eq; intro x j; simp only [mP]; grind
theorem mP_self (I : Nat → Int → Int) : mP I (I 360 2) (I 360 3) = I := by
  apply rr_u2_eq; intro x j; simp only [mP]; grind
theorem mP_setp (I : Nat → Int → Int) (p f q : Int) : rr_u2 (mP I p f) 360 2 q = mP I q f := by
  apply rr_u2_eq; intro x j; simp only [mP, rr_u2]; grind
theorem mP_setf (I : Nat → Int → Int) (p f q : Int) : rr_u2 (mP I p f) 360 3 q = mP I p q := by
  apply rr_u2_eq; intro x j; simp only [mP, rr_u2]; grind
theorem mSg_mP (I : Nat → Int → Int) (p f : Int) : mSg (mP I p f) = mSg I := by
  funext q; simp only [mSg]; rw [mP_o I p f (by decide) (by decide), mP_a I p f (by decide)]
theorem rr_and255 (z : Int) : 0 ≤ rr_and z 255 ∧ rr_and z 255 ≤ 255 := by
  unfold rr_and
  have h := pk_and (Int32.ofInt z) (m := Int32.ofInt 255) 8 (by decide)
  rw [h, nI_toInt (by have := Nat.mod_lt (Int32.ofInt z).toBitVec.toNat (show 0 < 2 ^ 8 by decide); omega)]
  have := Nat.mod_lt (Int32.ofInt z).toBitVec.toNat (show 0 < 2 ^ 8 by decide)
  omega
theorem mSg_in (I : Nat → Int → Int) (p : Int) : -1 ≤ mSg I p ∧ mSg I p ≤ 255 := by
  unfold mSg
  split
  · have := rr_and255 (I 361 p); omega
  · omega
theorem mSg_out (I : Nat → Int → Int) {p : Int} (h : I 360 1 ≤ p) : mSg I p = -1 := by
  unfold mSg
  rw [if_neg (by omega)]
/-- the fault that comes of a fault -/
def flt (f kind place : Int) : Int := if f = -1 then 8 * place + kind else f
theorem c_failsP {I : Nat → Int → Int} {p f kind place : Int} (h : -2147483648 ≤ f ∧ f < 2147483648) : mC yX4_fails cX4_fails 3 none 0 [vR (some 360), vI kind, vI place] (mP I p f) none (mP I p (flt f kind place)) := by
  have h1 := c_fails (I := mP I p f) (kind := kind) (place := place) (by rw [mP_f]; exact h)
  have : mFails (mP I p f) kind place = mP I p (flt f kind place) := by
    unfold mFails flt
    rw [mP_f, mP_setf]
    split <;> rfl
  rw [this] at h1
  exact h1
theorem c_signP {I : Nat → Int → Int} {p f : Int} (h1 : 0 ≤ p ∧ p < 2147483648) (h2 : 0 ≤ I 360 1 ∧ I 360 1 ≤ 300) : mC yX4_sign cX4_sign 1 (some FieldType.int) 0 [vR (some 360)] (mP I p f) (some (vI (mSg I p))) (mP I p f) := by
  have h := c_sign (I := mP I p f) (by rw [mP_p]; exact h1) (by rw [mP_o _ _ _ (by decide) (by decide)]; exact h2)
  rw [mP_p, mSg_mP] at h
  exact h
theorem c_isRightP {I : Nat → Int → Int} {p f : Int} (h : -2147483648 ≤ f ∧ f < 2147483648) : mC yX4_isRight cX4_isRight 1 (some FieldType.boolean) 0 [vR (some 360)] (mP I p f) (some (vI (bi (f = -1)))) (mP I p f) := by
  have h1 := c_isRight (I := mP I p f) (by rw [mP_f]; exact h)
  simp only [mP_f] at h1
  exact h1
theorem c_isDigit {I : Nat → Int → Int} {p f : Int} (h1 : 0 ≤ p ∧ p < 2147483648) (h2 : 0 ≤ I 360 1 ∧ I 360 1 ≤ 300) : mC yX4_isDigit cX4_isDigit 1 (some FieldType.boolean) 1 [vR (some 360)] (mP I p f) (some (vI (bi (48 ≤ mSg I p ∧ mSg I p ≤ 57)))) (mP I p f) := by
  have h3 := mSg_in I p
  refine mC.of (by decide) rfl (Nat.le_of_ble_eq_true rfl) (fun G nx => ?_)
  refine x_ls (ls2 := [some (vR (some 360))]) rfl ?_
  refine x_aload_n dX4_isDigit_0 rfl ?_
  refine m_cv0 (c_signP (by omega) (by assumption)) fX4_sign q2279 (by decide) (Nat.le_of_ble_eq_true rfl) dX4_isDigit_1 ?_
  refine x_bipush dX4_isDigit_4 (by decide) ?_
  refine x_bipush dX4_isDigit_6 (by decide) ?_
  refine m_cs3 (c_in (by omega) (by omega) (by omega)) fX4_in q2299 (by decide) (Nat.le_of_ble_eq_true rfl) dX4_isDigit_8 ?_
  refine x_zret rfl dX4_isDigit_11 (by first | exact Or.inl rfl | exact Or.inr rfl | exact bi_01 _ | omega) (Nat.le_refl _) (Nat.le_refl _) ?_
  exact ⟨by first | rfl | exact rT (by omega) | exact rF (by omega), rfl, rfl⟩
/-- induction by a measure -/
theorem rr_ind {α : Type} {W : α → Prop} (μ : α → Nat) (P : α → Prop) (hs : ∀ a, P a → (∀ b, P b → μ b < μ a → W b) → W a) : ∀ a, P a → W a := by
  have key : ∀ (n : Nat) a, μ a < n → P a → W a := by
    intro n
    induction n with
    | zero => intro a h; omega
    | succ n ih => exact fun a h hp => hs a hp (fun b hb hm => ih b (by omega) hb)
  exact fun a hp => key _ a (Nat.lt_succ_self _) hp
/-- q is the first place from p on where P fails -/
def Sk (P : Int → Prop) (p q : Int) : Prop := p ≤ q ∧ ¬ P q ∧ ∀ k, p ≤ k → k < q → P k
def skw (P : Int → Prop) [DecidablePred P] : Nat → Int → Int
  | 0, p => p
  | n + 1, p => if P p then skw P n (p + 1) else p
def skip (P : Int → Prop) [DecidablePred P] (p : Int) : Int := skw P 700 p
theorem skw_spec (P : Int → Prop) [DecidablePred P] (hP : ∀ q, 300 ≤ q → ¬ P q) (n : Nat) : ∀ p : Int, 300 - p ≤ (n : Int) → Sk P p (skw P n p) := by
  induction n with
  | zero =>
    intro p h
    exact ⟨Int.le_refl _, hP p (by omega), fun k h1 h2 => by simp [skw] at h2; omega⟩
  | succ n ih =>
    intro p h
    simp only [skw]
    split
    · rename_i h1
      obtain ⟨a, b, c⟩ := ih (p + 1) (by omega)
      refine ⟨by omega, b, fun k h2 h3 => ?_⟩
      by_cases e : k = p
      · rw [e]; exact h1
      · exact c k (by omega) h3
    · rename_i h1
      exact ⟨Int.le_refl _, h1, fun k h2 h3 => by omega⟩
theorem skip_spec (P : Int → Prop) [DecidablePred P] (hP : ∀ q, 300 ≤ q → ¬ P q) {p : Int} (h : 0 ≤ p) : Sk P p (skip P p) := skw_spec P hP 700 p (by omega)
theorem Sk.uniq {P : Int → Prop} {p q r : Int} (h : Sk P p q) (h' : Sk P p r) : q = r := by
  rcases Int.lt_trichotomy q r with w | w | w
  · exact absurd (h'.2.2 q h.1 w) h.2.1
  · exact w
  · exact absurd (h.2.2 r h'.1 w) h'.2.1
theorem Sk.stop {P : Int → Prop} {p q : Int} (h : Sk P p q) (hp : ¬ P p) : q = p := by
  rcases Int.lt_or_le p q with w | w
  · exact absurd (h.2.2 p (Int.le_refl _) w) hp
  · have := h.1; omega
theorem Sk.step {P : Int → Prop} {p q : Int} (h : Sk P p q) (hp : P p) : Sk P (p + 1) q ∧ p < q := by
  have : p ≠ q := fun e => h.2.1 (e ▸ hp)
  have := h.1
  exact ⟨⟨by omega, h.2.1, fun k h1 h2 => h.2.2 k (by omega) h2⟩, by omega⟩
theorem Sk.le {P : Int → Prop} (hP : ∀ q, 300 ≤ q → ¬ P q) {p q : Int} (h : Sk P p q) : q ≤ p ∨ q ≤ 300 := by
  rcases Int.lt_or_le p q with w | w
  · right
    rcases Int.lt_or_le 300 q with z | z
    · exact absurd (h.2.2 (q - 1) (by omega) (by omega)) (hP _ (by omega))
    · exact z
  · exact Or.inl w
/-- behind the blanks -/
abbrev Blk (T : Int → Int) : Int → Int → Prop := Sk (fun k => T k = 32)
def blk (T : Int → Int) (p : Int) : Int := skip (fun k => T k = 32) p
theorem mSg_no {I : Nat → Int → Int} (h2 : 0 ≤ I 360 1 ∧ I 360 1 ≤ 300) {q : Int} (hq : 300 ≤ q) : mSg I q = -1 := mSg_out I (by omega)
theorem blk_spec {I : Nat → Int → Int} (h2 : 0 ≤ I 360 1 ∧ I 360 1 ≤ 300) {p : Int} (h : 0 ≤ p) : Blk (mSg I) p (blk (mSg I) p) := skip_spec _ (fun q hq z => by rw [mSg_no h2 hq] at z; omega) h
theorem blk_le {I : Nat → Int → Int} (h2 : 0 ≤ I 360 1 ∧ I 360 1 ≤ 300) {p : Int} (h : 0 ≤ p) : p ≤ blk (mSg I) p ∧ (blk (mSg I) p ≤ p ∨ blk (mSg I) p ≤ 300) := ⟨(blk_spec h2 h).1, (blk_spec h2 h).le (fun q hq z => by rw [mSg_no h2 hq] at z; omega)⟩
theorem c_blanks {I : Nat → Int → Int} {p f : Int} (h1 : 0 ≤ p ∧ p < 2000) (h2 : 0 ≤ I 360 1 ∧ I 360 1 ≤ 300) : mC yX4_blanks cX4_blanks 1 none 1 [vR (some 360)] (mP I p f) none (mP I (blk (mSg I) p) f) := by
  refine mC.of (by decide) rfl (Nat.le_of_ble_eq_true rfl) (fun G nx => ?_)
  refine x_ls (ls2 := [some (vR (some 360))]) rfl ?_
  have hb := blk_spec h2 h1.1
  have hl := blk_le h2 h1.1
  generalize blk (mSg I) p = fin at hb hl
  refine rr_ind (W := fun q => mm G yX4_blanks cX4_blanks 1 none 1 nx _ _ 0 [some (vR (some 360))] [] (mP I q f)) (fun q => (fin - q).toNat) (fun q => p ≤ q ∧ Blk (mSg I) q fin) ?_ p ⟨by omega, hb⟩
  intro q hp ih
  have h4 := mSg_in I q
  have h5 := hp.2.1
  refine x_aload_n dX4_blanks_0 rfl ?_
  refine m_cv0 (c_signP (by omega) (by assumption)) fX4_sign q2279 (by decide) (Nat.le_of_ble_eq_true rfl) dX4_blanks_1 ?_
  refine x_bipush dX4_blanks_4 (by decide) ?_
  refine x_icmp_ne (t := 22) dX4_blanks_6 (by decide) (by omega) (fun c_6 => ?_) (fun c_6 => ?_)
  · skip
    have h6 := hp.2.stop c_6
    refine x_vret rfl dX4_blanks_22 (Nat.le_refl _) (Nat.le_refl _) ?_
    exact ⟨rfl, by rw [h6], rfl⟩
  · skip
    have h6 := hp.2.step c_6
    refine x_aload_n dX4_blanks_9 rfl ?_
    refine x_dup dX4_blanks_10 rfl ?_
    refine m_getI (kf := 2) 2 (by decide) rfl rfl q2117 rfl dX4_blanks_11 ?_
    refine x_iconst dX4_blanks_14 ?_
    refine x_iadd dX4_blanks_15 ?_
    rw [mP_p]
    refine m_putI (kf := 2) 2 (by decide) rfl rfl q2117 rfl rfl (rr_nar_i _) dX4_blanks_16 ?_
    rw [mP_setp]
    refine x_goto (t := 0) dX4_blanks_19 (by decide) ?_
    exact ih (q + 1) ⟨by omega, h6.1⟩ (by omega)
/-- the digits' value -/
abbrev isDg (T : Int → Int) (k : Int) : Prop := 48 ≤ T k ∧ T k ≤ 57
def dge (T : Int → Int) (p : Int) : Int := skip (isDg T) p
def dgv (T : Int → Int) (p : Int) : Int := itr (fun k v => min 1000 (10 * v + T k - 48)) p (dge T p) 0
/-- a number is taken: its value, the place behind it, the fault -/
def numV (T : Int → Int) (p : Int) : Int := if isDg T (blk T p) then dgv T (blk T p) else 0
def numP (T : Int → Int) (p : Int) : Int := if isDg T (blk T p) then dge T (blk T p) else blk T p
def numF (T : Int → Int) (p f : Int) : Int := if isDg T (blk T p) then (if 31 < dgv T (blk T p) then flt f 2 (blk T p) else f) else flt f 1 (blk T p)
theorem dge_spec {I : Nat → Int → Int} (h2 : 0 ≤ I 360 1 ∧ I 360 1 ≤ 300) {p : Int} (h : 0 ≤ p) : Sk (isDg (mSg I)) p (dge (mSg I) p) := skip_spec _ (fun q hq z => by have := mSg_no h2 hq; have := z.1; omega) h
theorem dge_le {I : Nat → Int → Int} (h2 : 0 ≤ I 360 1 ∧ I 360 1 ≤ 300) {p : Int} (h : 0 ≤ p) : p ≤ dge (mSg I) p ∧ (dge (mSg I) p ≤ p ∨ dge (mSg I) p ≤ 300) := ⟨(dge_spec h2 h).1, (dge_spec h2 h).le (fun q hq z => by have := mSg_no h2 hq; have := z.1; omega)⟩
theorem dgv_in {T : Int → Int} (q e : Int) : ∀ v, 0 ≤ v ∧ v ≤ 1000 → (∀ k, q ≤ k → k < e → isDg T k) → 0 ≤ itr (fun k v => min 1000 (10 * v + T k - 48)) q e v ∧ itr (fun k v => min 1000 (10 * v + T k - 48)) q e v ≤ 1000 := by
  intro v hv hd
  refine rr_for (g := fun k v => min 1000 (10 * v + T k - 48)) (hi := e) (fin := _) (P := fun i a => q ≤ i ∧ 0 ≤ a ∧ a ≤ 1000) (W := fun _ _ => 0 ≤ itr (fun k v => min 1000 (10 * v + T k - 48)) q e v ∧ itr (fun k v => min 1000 (10 * v + T k - 48)) q e v ≤ 1000) ?_ ?_ q v rfl ⟨Int.le_refl _, hv⟩
  · intro i hi hp; exact hp.2
  · intro i a hi hp ih
    have := hd i hp.1 hi
    refine ih ⟨by omega, ?_, ?_⟩
    · have := this.1; omega
    · omega
theorem num_in {I : Nat → Int → Int} (h2 : 0 ≤ I 360 1 ∧ I 360 1 ≤ 300) {p : Int} (h : 0 ≤ p) : (0 ≤ numV (mSg I) p ∧ numV (mSg I) p ≤ 1000) ∧ p ≤ numP (mSg I) p ∧ (numP (mSg I) p ≤ p ∨ numP (mSg I) p ≤ 300) := by
  have h3 := blk_le h2 h
  have h4 := dge_spec h2 (show 0 ≤ blk (mSg I) p by omega)
  have h5 := dge_le h2 (show 0 ≤ blk (mSg I) p by omega)
  unfold numV numP
  split
  · exact ⟨dgv_in _ _ 0 (by omega) h4.2.2, by omega⟩
  · omega
theorem xC.m {y : MethodName} {cc : ByteArray} {nL : Nat} {ret : Option FieldType} {d : Nat} {as : List rr_V} {r : Option rr_V} (h : xC y cc nL ret d as r) {I : Nat → Int → Int} : mC y cc nL ret d as I r I := fun G nx => h G (mh I) nx
theorem c_numberTaken_loop {I : Nat → Int → Int} {b e w f : Int} {G : rr_G} {nx : Nat} (h2 : 0 ≤ I 360 1 ∧ I 360 1 ≤ 300) (h3 : -1 ≤ f ∧ f < 1000000) (hd : Sk (isDg (mSg I)) b e) (hl : b ≤ e ∧ (e ≤ b ∨ e ≤ 300)) (hv : 0 ≤ w ∧ w ≤ 1000) (hw : itr (fun k v => min 1000 (10 * v + mSg I k - 48)) b e 0 = w) (hb : 0 ≤ b ∧ b < 2000) :
    rr_R G yX4_numberTaken cX4_numberTaken 3 (some FieldType.int) 2 0 0 (rr_N G 0 0 (fun r2 h2 n2 => r2 = some (vI w) ∧ h2 = mh (mP I e (if 31 < w then flt f 2 b else f)) ∧ n2 = nx)) 29 [some (vR (some 360)), some (vI b), some (vI 0)] [] (mh (mP I b f)) nx 0 0 := by
  refine rr_for (g := fun k v => min 1000 (10 * v + mSg I k - 48)) (hi := e) (P := fun q v => b ≤ q ∧ q ≤ e ∧ 0 ≤ v ∧ v ≤ 1000) (W := fun q v => mm G yX4_numberTaken cX4_numberTaken 3 (some FieldType.int) 2 nx _ _ 29 [some (vR (some 360)), some (vI b), some (vI v)] [] (mP I q f)) ?_ ?_ b 0 hw (by omega)
  · intro q hq hp
    have hq' : q = e := by omega
    subst hq'
    refine x_aload_n dX4_numberTaken_29 rfl ?_
    refine m_cv0 (c_isDigit (by omega) (by assumption)) fX4_isDigit q2295 (by decide) (Nat.le_of_ble_eq_true rfl) dX4_numberTaken_30 ?_
    refine x_if_eq_b (t := 68) dX4_numberTaken_33 (by decide) (fun c_33 => ?_) (fun c_33 => ?_)
    · skip
      refine x_iload_n dX4_numberTaken_68 rfl ?_
      refine x_bipush dX4_numberTaken_69 (by decide) ?_
      refine x_icmp_le (t := 80) dX4_numberTaken_71 (by decide) (by omega) (fun c_71 => ?_) (fun c_71 => ?_)
      · skip
        rw [if_neg (by omega)]
        refine x_iload_n dX4_numberTaken_80 rfl ?_
        refine x_iret rfl dX4_numberTaken_81 (Nat.le_refl _) (Nat.le_refl _) ?_
        exact ⟨rfl, rfl, rfl⟩
      · skip
        rw [if_pos (by omega)]
        refine x_aload_n dX4_numberTaken_74 rfl ?_
        refine x_iconst dX4_numberTaken_75 ?_
        refine x_iload_n dX4_numberTaken_76 rfl ?_
        refine m_cw2 (c_failsP (by omega)) fX4_fails q2302 (by decide) (Nat.le_of_ble_eq_true rfl) dX4_numberTaken_77 ?_
        refine x_iload_n dX4_numberTaken_80 rfl ?_
        refine x_iret rfl dX4_numberTaken_81 (Nat.le_refl _) (Nat.le_refl _) ?_
        exact ⟨rfl, rfl, rfl⟩
    · skip
      exact absurd c_33 hd.2.1
  · intro q v hq hp ih
    have h5 := hd.2.2 q hp.1 hq
    have h6 := mSg_in I q
    refine x_aload_n dX4_numberTaken_29 rfl ?_
    refine m_cv0 (c_isDigit (by omega) (by assumption)) fX4_isDigit q2295 (by decide) (Nat.le_of_ble_eq_true rfl) dX4_numberTaken_30 ?_
    refine x_if_eq_b (t := 68) dX4_numberTaken_33 (by decide) (fun c_33 => ?_) (fun c_33 => ?_)
    · skip
      exact absurd h5 c_33
    · skip
      refine x_sipush dX4_numberTaken_36 (by decide) ?_
      refine x_bipush dX4_numberTaken_39 (by decide) ?_
      refine x_iload_n dX4_numberTaken_41 rfl ?_
      refine x_imul dX4_numberTaken_42 ?_
      refine x_aload_n dX4_numberTaken_43 rfl ?_
      refine m_cv0 (c_signP (by omega) (by assumption)) fX4_sign q2279 (by decide) (Nat.le_of_ble_eq_true rfl) dX4_numberTaken_44 ?_
      refine x_iadd dX4_numberTaken_47 ?_
      refine x_bipush dX4_numberTaken_48 (by decide) ?_
      refine x_isub dX4_numberTaken_50 ?_
      refine x_mmin (by omega) q2306 (by decide) (Nat.le_of_ble_eq_true rfl) dX4_numberTaken_51 ?_
      refine x_istore_n dX4_numberTaken_54 (by decide) ?_
      refine x_aload_n dX4_numberTaken_55 rfl ?_
      refine x_dup dX4_numberTaken_56 rfl ?_
      refine m_getI (kf := 2) 2 (by decide) rfl rfl q2117 rfl dX4_numberTaken_57 ?_
      refine x_iconst dX4_numberTaken_60 ?_
      refine x_iadd dX4_numberTaken_61 ?_
      rw [mP_p]
      refine m_putI (kf := 2) 2 (by decide) rfl rfl q2117 rfl rfl (rr_nar_i _) dX4_numberTaken_62 ?_
      rw [mP_setp]
      refine x_goto (t := 29) dX4_numberTaken_65 (by decide) ?_
      exact ih ⟨by omega, by omega, by have := h5.1; omega, by omega⟩
theorem c_numberTaken {I : Nat → Int → Int} {p f : Int} (h1 : 0 ≤ p ∧ p < 1500) (h2 : 0 ≤ I 360 1 ∧ I 360 1 ≤ 300) (h3 : -1 ≤ f ∧ f < 1000000) : mC yX4_numberTaken cX4_numberTaken 3 (some FieldType.int) 2 [vR (some 360)] (mP I p f) (some (vI (numV (mSg I) p))) (mP I (numP (mSg I) p) (numF (mSg I) p f)) := by
  refine mC.of (by decide) rfl (Nat.le_of_ble_eq_true rfl) (fun G nx => ?_)
  refine x_ls (ls2 := [some (vR (some 360)), none, none]) rfl ?_
  have hb := blk_le h2 h1.1
  have hg := mSg_in I (blk (mSg I) p)
  unfold numV numP numF dgv
  refine x_aload_n dX4_numberTaken_0 rfl ?_
  refine m_cw0 (c_blanks (by omega) (by assumption)) fX4_blanks q2275 (by decide) (Nat.le_of_ble_eq_true rfl) dX4_numberTaken_1 ?_
  refine x_aload_n dX4_numberTaken_4 rfl ?_
  refine m_getI (kf := 2) 2 (by decide) rfl rfl q2117 rfl dX4_numberTaken_5 ?_
  rw [mP_p]
  refine x_istore_n dX4_numberTaken_8 (by decide) ?_
  refine x_aload_n dX4_numberTaken_9 rfl ?_
  refine m_cv0 (c_isDigit (by omega) (by assumption)) fX4_isDigit q2295 (by decide) (Nat.le_of_ble_eq_true rfl) dX4_numberTaken_10 ?_
  refine x_if_ne_b (t := 27) dX4_numberTaken_13 (by decide) (fun c_13 => ?_) (fun c_13 => ?_)
  · skip
    rw [if_pos c_13, if_pos c_13, if_pos c_13]
    have hd := dge_spec h2 (show 0 ≤ blk (mSg I) p by omega)
    have hl := dge_le h2 (show 0 ≤ blk (mSg I) p by omega)
    generalize blk (mSg I) p = b at *
    generalize dge (mSg I) b = e at *
    have hv := dgv_in b e 0 (by omega) hd.2.2
    generalize hw : itr (fun k v => min 1000 (10 * v + mSg I k - 48)) b e 0 = w at *
    refine x_iconst dX4_numberTaken_27 ?_
    refine x_istore_n dX4_numberTaken_28 (by decide) ?_
    exact c_numberTaken_loop h2 h3 hd hl hv hw (by omega)
  · skip
    rw [if_neg c_13, if_neg c_13, if_neg c_13]
    refine x_aload_n dX4_numberTaken_16 rfl ?_
    refine x_iconst dX4_numberTaken_17 ?_
    refine x_aload_n dX4_numberTaken_18 rfl ?_
    refine m_getI (kf := 2) 2 (by decide) rfl rfl q2117 rfl dX4_numberTaken_19 ?_
    rw [mP_p]
    refine m_cw2 (c_failsP (by omega)) fX4_fails q2302 (by decide) (Nat.le_of_ble_eq_true rfl) dX4_numberTaken_22 ?_
    refine x_iconst dX4_numberTaken_25 ?_
    refine x_iret rfl dX4_numberTaken_26 (Nat.le_refl _) (Nat.le_refl _) ?_
    exact ⟨rfl, rfl, rfl⟩
