set_option maxRecDepth 100000
/-! THE MODEL's methods, 3: the tape is laid; forms are read -/
theorem rr_i2b_in (z : Int) : -128 ≤ rr_i2b z ∧ rr_i2b z < 128 := by
  unfold rr_i2b
  rw [Int8.toInt_toInt32]
  have h1 := Int8.le_toInt (Int32.ofInt z).toInt8
  have h2 := Int8.toInt_lt (Int32.ofInt z).toInt8
  omega
/-- the tape and how long it is are set -/
def mT (I : Nat → Int → Int) (f : Int → Int) (n : Int) : Nat → Int → Int := fun x j => if x = 361 then f j else if x = 360 ∧ j = 1 then n else I x j
/-- four bytes of a number, the highest first -/
def putB (f : Int → Int) (at_ v : Int) : Int → Int := fun k => if k = at_ then rr_i2b (rr_shr v 24) else if k = at_ + 1 then rr_i2b (rr_shr v 16) else if k = at_ + 2 then rr_i2b (rr_shr v 8) else if k = at_ + 3 then rr_i2b (rr_shr v 0) else f k
theorem c_puts {I : Nat → Int → Int} {f : Int → Int} {n v : Int} (h : 0 ≤ n ∧ n ≤ 296) : mC yX4_puts cX4_puts 3 none 0 [vR (some 360), vI v] (mT I f n) none (mT I (putB f n v) (n + 4)) := by
  have e0 : ∀ (f : Int → Int) (n : Int), mT I f n 360 1 = n := by intro f n; simp [mT]
  have e1 : ∀ (f : Int → Int) (n k z : Int), rr_u2 (rr_u2 (mT I f n) 361 k z) 360 1 (n + 1) = mT I (fun j => if j = k then z else f j) (n + 1) := by
    intro f n k z; apply rr_u2_eq; intro x j; simp only [mT, rr_u2]; grind
  refine mC.of (by decide) rfl (Nat.le_of_ble_eq_true rfl) (fun G nx => ?_)
  refine x_ls (ls2 := [some (vR (some 360)), some (vI v), none]) rfl ?_
  refine x_bipush dX4_puts_0 (by decide) ?_
  refine x_istore_n dX4_puts_2 (by decide) ?_
  refine x_iload_n dX4_puts_3 rfl ?_
  refine x_if_lt (t := 36) dX4_puts_4 (by decide) (by omega) (fun c_4 => absurd c_4 (by omega)) (fun c_4 => ?_)
  refine x_aload_n dX4_puts_7 rfl ?_
  refine m_getA (kf := 0) 0 (a := 361) (by decide) rfl rfl q2115 rfl rfl dX4_puts_8 ?_
  refine x_aload_n dX4_puts_11 rfl ?_
  refine m_getI (kf := 1) 1 (by decide) rfl rfl q2116 rfl dX4_puts_12 ?_
  rw [e0]
  refine x_iload_n dX4_puts_15 rfl ?_
  refine x_iload_n dX4_puts_16 rfl ?_
  refine x_ishr dX4_puts_17 ?_
  refine x_i2b dX4_puts_18 ?_
  refine m_bast (n := 300) rfl rfl (by decide) (by omega) (rr_i2b_in _) dX4_puts_19 ?_
  refine x_aload_n dX4_puts_20 rfl ?_
  refine x_dup dX4_puts_21 rfl ?_
  refine m_getI (kf := 1) 1 (by decide) rfl rfl q2116 rfl dX4_puts_22 ?_
  refine x_iconst dX4_puts_25 ?_
  rw [show (rr_u2 (mT I f n) 361 n (rr_i2b (rr_shr v 24))) 360 1 = n from by rw [rr_u2_ne _ _ (by omega), e0]]
  refine x_iadd dX4_puts_26 ?_
  refine m_putI (kf := 1) 1 (by decide) rfl rfl q2116 rfl rfl (rr_nar_i _) dX4_puts_27 ?_
  rw [e1]
  refine x_iinc dX4_puts_30 rfl (by decide) ?_
  refine x_goto (t := 3) dX4_puts_33 (by decide) ?_
  refine x_iload_n dX4_puts_3 rfl ?_
  refine x_if_lt (t := 36) dX4_puts_4 (by decide) (by omega) (fun c_4 => absurd c_4 (by omega)) (fun c_4 => ?_)
  refine x_aload_n dX4_puts_7 rfl ?_
  refine m_getA (kf := 0) 0 (a := 361) (by decide) rfl rfl q2115 rfl rfl dX4_puts_8 ?_
  refine x_aload_n dX4_puts_11 rfl ?_
  refine m_getI (kf := 1) 1 (by decide) rfl rfl q2116 rfl dX4_puts_12 ?_
  rw [e0]
  refine x_iload_n dX4_puts_15 rfl ?_
  refine x_iload_n dX4_puts_16 rfl ?_
  refine x_ishr dX4_puts_17 ?_
  refine x_i2b dX4_puts_18 ?_
  refine m_bast (n := 300) rfl rfl (by decide) (by omega) (rr_i2b_in _) dX4_puts_19 ?_
  refine x_aload_n dX4_puts_20 rfl ?_
  refine x_dup dX4_puts_21 rfl ?_
  refine m_getI (kf := 1) 1 (by decide) rfl rfl q2116 rfl dX4_puts_22 ?_
  refine x_iconst dX4_puts_25 ?_
  rw [rr_u2_ne _ _ (by omega), e0]
  refine x_iadd dX4_puts_26 ?_
  refine m_putI (kf := 1) 1 (by decide) rfl rfl q2116 rfl rfl (rr_nar_i _) dX4_puts_27 ?_
  rw [e1]
  refine x_iinc dX4_puts_30 rfl (by decide) ?_
  refine x_goto (t := 3) dX4_puts_33 (by decide) ?_
  refine x_iload_n dX4_puts_3 rfl ?_
  refine x_if_lt (t := 36) dX4_puts_4 (by decide) (by omega) (fun c_4 => absurd c_4 (by omega)) (fun c_4 => ?_)
  refine x_aload_n dX4_puts_7 rfl ?_
  refine m_getA (kf := 0) 0 (a := 361) (by decide) rfl rfl q2115 rfl rfl dX4_puts_8 ?_
  refine x_aload_n dX4_puts_11 rfl ?_
  refine m_getI (kf := 1) 1 (by decide) rfl rfl q2116 rfl dX4_puts_12 ?_
  rw [e0]
  refine x_iload_n dX4_puts_15 rfl ?_
  refine x_iload_n dX4_puts_16 rfl ?_
  refine x_ishr dX4_puts_17 ?_
  refine x_i2b dX4_puts_18 ?_
  refine m_bast (n := 300) rfl rfl (by decide) (by omega) (rr_i2b_in _) dX4_puts_19 ?_
  refine x_aload_n dX4_puts_20 rfl ?_
  refine x_dup dX4_puts_21 rfl ?_
  refine m_getI (kf := 1) 1 (by decide) rfl rfl q2116 rfl dX4_puts_22 ?_
  refine x_iconst dX4_puts_25 ?_
  rw [rr_u2_ne _ _ (by omega), e0]
  refine x_iadd dX4_puts_26 ?_
  refine m_putI (kf := 1) 1 (by decide) rfl rfl q2116 rfl rfl (rr_nar_i _) dX4_puts_27 ?_
  rw [e1]
  refine x_iinc dX4_puts_30 rfl (by decide) ?_
  refine x_goto (t := 3) dX4_puts_33 (by decide) ?_
  refine x_iload_n dX4_puts_3 rfl ?_
  refine x_if_lt (t := 36) dX4_puts_4 (by decide) (by omega) (fun c_4 => absurd c_4 (by omega)) (fun c_4 => ?_)
  refine x_aload_n dX4_puts_7 rfl ?_
  refine m_getA (kf := 0) 0 (a := 361) (by decide) rfl rfl q2115 rfl rfl dX4_puts_8 ?_
  refine x_aload_n dX4_puts_11 rfl ?_
  refine m_getI (kf := 1) 1 (by decide) rfl rfl q2116 rfl dX4_puts_12 ?_
  rw [e0]
  refine x_iload_n dX4_puts_15 rfl ?_
  refine x_iload_n dX4_puts_16 rfl ?_
  refine x_ishr dX4_puts_17 ?_
  refine x_i2b dX4_puts_18 ?_
  refine m_bast (n := 300) rfl rfl (by decide) (by omega) (rr_i2b_in _) dX4_puts_19 ?_
  refine x_aload_n dX4_puts_20 rfl ?_
  refine x_dup dX4_puts_21 rfl ?_
  refine m_getI (kf := 1) 1 (by decide) rfl rfl q2116 rfl dX4_puts_22 ?_
  refine x_iconst dX4_puts_25 ?_
  rw [rr_u2_ne _ _ (by omega), e0]
  refine x_iadd dX4_puts_26 ?_
  refine m_putI (kf := 1) 1 (by decide) rfl rfl q2116 rfl rfl (rr_nar_i _) dX4_puts_27 ?_
  rw [e1]
  refine x_iinc dX4_puts_30 rfl (by decide) ?_
  refine x_goto (t := 3) dX4_puts_33 (by decide) ?_
  refine x_iload_n dX4_puts_3 rfl ?_
  refine x_if_lt (t := 36) dX4_puts_4 (by decide) (by omega) (fun c_4 => ?_) (fun c_4 => absurd (by omega) c_4)
  refine x_vret rfl dX4_puts_36 (Nat.le_refl _) (Nat.le_refl _) ?_
  refine ⟨rfl, mh_eq (fun x j => ?_), rfl⟩
  simp only [mT, putB, Int.reduceAdd, Int.reduceNeg]
  grind
theorem mT_self (I : Nat → Int → Int) : mT I (I 361) (I 360 1) = I := by
  apply rr_u2_eq; intro x j; simp only [mT]; grind
theorem mT_n (I : Nat → Int → Int) (f : Int → Int) (n : Int) : mT I f n 360 1 = n := by simp [mT]
/-- twenty bytes -/
def feedB (f : Int → Int) (n a b c d e : Int) : Int → Int := putB (putB (putB (putB (putB f n a) (n + 4) b) (n + 4 + 4) c) (n + 4 + 4 + 4) d) (n + 4 + 4 + 4 + 4) e
theorem c_feed {I : Nat → Int → Int} {a b c d e : Int} (h : 0 ≤ I 360 1 ∧ I 360 1 ≤ 300) : mC yX4_feed cX4_feed 6 (some FieldType.int) 1 [vR (some 360), vI a, vI b, vI c, vI d, vI e] I (some (vI (if 280 < I 360 1 then -1 else I 360 1 + 20))) (if 280 < I 360 1 then I else mT I (feedB (I 361) (I 360 1) a b c d e) (I 360 1 + 20)) := by
  refine mC.of (by decide) rfl (Nat.le_of_ble_eq_true rfl) (fun G nx => ?_)
  refine x_ls (ls2 := [some (vR (some 360)), some (vI a), some (vI b), some (vI c), some (vI d), some (vI e)]) rfl ?_
  refine x_aload_n dX4_feed_0 rfl ?_
  refine m_getI (kf := 1) 1 (by decide) rfl rfl q2116 rfl dX4_feed_1 ?_
  refine x_bipush dX4_feed_4 (by decide) ?_
  refine x_iadd dX4_feed_6 ?_
  refine x_sipush dX4_feed_7 (by decide) ?_
  refine x_icmp_le (t := 15) dX4_feed_10 (by decide) (by omega) (fun c_10 => ?_) (fun c_10 => ?_)
  · skip
    rw [if_neg (by omega), if_neg (by omega)]
    generalize hn : I 360 1 = n at *
    refine x_h (h2 := mh (mT I (I 361) n)) (by rw [← hn, mT_self]) ?_
    refine x_aload_n dX4_feed_15 rfl ?_
    refine x_iload_n dX4_feed_16 rfl ?_
    refine m_cw1 (c_puts (by omega)) fX4_puts q2259 (by decide) (Nat.le_of_ble_eq_true rfl) dX4_feed_17 ?_
    refine x_aload_n dX4_feed_20 rfl ?_
    refine x_iload_n dX4_feed_21 rfl ?_
    refine m_cw1 (c_puts (by omega)) fX4_puts q2259 (by decide) (Nat.le_of_ble_eq_true rfl) dX4_feed_22 ?_
    refine x_aload_n dX4_feed_25 rfl ?_
    refine x_iload_n dX4_feed_26 rfl ?_
    refine m_cw1 (c_puts (by omega)) fX4_puts q2259 (by decide) (Nat.le_of_ble_eq_true rfl) dX4_feed_27 ?_
    refine x_aload_n dX4_feed_30 rfl ?_
    refine x_iload dX4_feed_31 rfl ?_
    refine m_cw1 (c_puts (by omega)) fX4_puts q2259 (by decide) (Nat.le_of_ble_eq_true rfl) dX4_feed_33 ?_
    refine x_aload_n dX4_feed_36 rfl ?_
    refine x_iload dX4_feed_37 rfl ?_
    refine m_cw1 (c_puts (by omega)) fX4_puts q2259 (by decide) (Nat.le_of_ble_eq_true rfl) dX4_feed_39 ?_
    refine x_aload_n dX4_feed_42 rfl ?_
    refine m_getI (kf := 1) 1 (by decide) rfl rfl q2116 rfl dX4_feed_43 ?_
    rw [mT_n]
    refine x_iret rfl dX4_feed_46 (Nat.le_refl _) (Nat.le_refl _) ?_
    exact ⟨by congr 2; omega, by rw [show n + 4 + 4 + 4 + 4 + 4 = n + 20 by omega]; rfl, rfl⟩
  · skip
    rw [if_pos (by omega), if_pos (by omega)]
    refine x_iconst dX4_feed_13 ?_
    refine x_iret rfl dX4_feed_14 (Nat.le_refl _) (Nat.le_refl _) ?_
    exact ⟨rfl, rfl, rfl⟩
theorem c_end {I : Nat → Int → Int} {n : Int} (h : 0 ≤ I 360 1 ∧ I 360 1 ≤ 300) (hn : -2147483648 ≤ n ∧ n < 2147483648) : mC yX4_end cX4_end 2 (some FieldType.int) 0 [vR (some 360), vI n] I (some (vI (if 0 ≤ n ∧ n ≤ I 360 1 then n else -1))) (if 0 ≤ n ∧ n ≤ I 360 1 then rr_u2 I 360 1 n else I) := by
  refine mC.of (by decide) rfl (Nat.le_of_ble_eq_true rfl) (fun G nx => ?_)
  refine x_ls (ls2 := [some (vR (some 360)), some (vI n)]) rfl ?_
  refine x_iload_n dX4_end_0 rfl ?_
  refine x_if_lt (t := 12) dX4_end_1 (by decide) (by omega) (fun c_1 => ?_) (fun c_1 => ?_)
  · skip
    rw [if_neg (by omega), if_neg (by omega)]
    refine x_iconst dX4_end_12 ?_
    refine x_iret rfl dX4_end_13 (Nat.le_refl _) (Nat.le_refl _) ?_
    exact ⟨rfl, rfl, rfl⟩
  · skip
    refine x_iload_n dX4_end_4 rfl ?_
    refine x_aload_n dX4_end_5 rfl ?_
    refine m_getI (kf := 1) 1 (by decide) rfl rfl q2116 rfl dX4_end_6 ?_
    refine x_icmp_le (t := 14) dX4_end_9 (by decide) (by omega) (fun c_9 => ?_) (fun c_9 => ?_)
    · skip
      rw [if_pos (by omega), if_pos (by omega)]
      refine x_aload_n dX4_end_14 rfl ?_
      refine x_iload_n dX4_end_15 rfl ?_
      refine m_putI (kf := 1) 1 (by decide) rfl rfl q2116 rfl rfl (rr_nar_i _) dX4_end_16 ?_
      refine x_iload_n dX4_end_19 rfl ?_
      refine x_iret rfl dX4_end_20 (Nat.le_refl _) (Nat.le_refl _) ?_
      exact ⟨rfl, rfl, rfl⟩
    · skip
      rw [if_neg (by omega), if_neg (by omega)]
      refine x_iconst dX4_end_12 ?_
      refine x_iret rfl dX4_end_13 (Nat.le_refl _) (Nat.le_refl _) ?_
      exact ⟨rfl, rfl, rfl⟩
theorem c_starts {I : Nat → Int → Int} : mC yX4_starts cX4_starts 1 none 0 [vR (some 360)] I none (mP I 0 (-1)) := by
  refine mC.of (by decide) rfl (Nat.le_of_ble_eq_true rfl) (fun G nx => ?_)
  refine x_ls (ls2 := [some (vR (some 360))]) rfl ?_
  refine x_aload_n dX4_starts_0 rfl ?_
  refine x_iconst dX4_starts_1 ?_
  refine m_putI (kf := 2) 2 (by decide) rfl rfl q2117 rfl rfl (rr_nar_i _) dX4_starts_2 ?_
  refine x_aload_n dX4_starts_5 rfl ?_
  refine x_iconst dX4_starts_6 ?_
  refine m_putI (kf := 3) 3 (by decide) rfl rfl q2118 rfl rfl (rr_nar_i _) dX4_starts_7 ?_
  refine x_vret rfl dX4_starts_10 (Nat.le_refl _) (Nat.le_refl _) ?_
  refine ⟨rfl, mh_eq (fun x j => ?_), rfl⟩
  simp only [mP, rr_u2]
  grind
/-- p, fault, how many forms are read, their rows -/
def mW (I : Nat → Int → Int) (p f k : Int) (g : Int → Int) : Nat → Int → Int := fun x j => if x = 363 then g j else if x = 360 ∧ j = 5 then k else mP I p f x j
theorem mW_P (I : Nat → Int → Int) (p f k : Int) (g : Int → Int) : mW I p f k g = mP (mW I p f k g) p f := by
  apply rr_u2_eq; intro x j; simp only [mW, mP]; grind
theorem mW_mP (I : Nat → Int → Int) (p f k q e : Int) (g : Int → Int) : mP (mW I p f k g) q e = mW I q e k g := by
  apply rr_u2_eq; intro x j; simp only [mW, mP]; grind
theorem mW_g (I : Nat → Int → Int) (p f k : Int) (g : Int → Int) (i v : Int) : rr_u2 (mW I p f k g) 363 i v = mW I p f k (fun j => if j = i then v else g j) := by
  apply rr_u2_eq; intro x j; simp only [mW, mP, rr_u2]; grind
theorem mW_k (I : Nat → Int → Int) (p f k v : Int) (g : Int → Int) : rr_u2 (mW I p f k g) 360 5 v = mW I p f v g := by
  apply rr_u2_eq; intro x j; simp only [mW, mP, rr_u2]; grind
theorem mW_p (I : Nat → Int → Int) (p f k v : Int) (g : Int → Int) : rr_u2 (mW I p f k g) 360 2 v = mW I v f k g := by
  apply rr_u2_eq; intro x j; simp only [mW, mP, rr_u2]; grind
theorem mW_at (I : Nat → Int → Int) (p f k : Int) (g : Int → Int) : mW I p f k g 360 5 = k ∧ mW I p f k g 360 2 = p ∧ mW I p f k g 360 3 = f ∧ mW I p f k g 360 1 = I 360 1 ∧ (∀ j, mW I p f k g 363 j = g j) ∧ ∀ j, mW I p f k g 361 j = I 361 j := by
  simp [mW, mP]
theorem mSg_mW (I : Nat → Int → Int) (p f k : Int) (g : Int → Int) : mSg (mW I p f k g) = mSg I := by
  funext q; simp only [mSg, (mW_at I p f k g).2.2.2.1, (mW_at I p f k g).2.2.2.2.2]
theorem mW_C {y : MethodName} {cc : ByteArray} {nL : Nat} {ret : Option FieldType} {d : Nat} {as : List rr_V} {I : Nat → Int → Int} {p f k q e : Int} {g : Int → Int} {r : Option rr_V} (h : mC y cc nL ret d as (mP (mW I p f k g) p f) r (mP (mW I p f k g) q e)) : mC y cc nL ret d as (mW I p f k g) r (mW I q e k g) := by
  rw [← mW_P, mW_mP] at h
  exact h
/-- a form that is read stands there already -/
def dupl (k : Int) (g : Int → Int) : Prop := ∃ f, 0 ≤ f ∧ f < k ∧ ∀ y, 0 ≤ y → y < 5 → g (5 * f + y) = g (5 * k + y)
theorem c_isTold {I : Nat → Int → Int} {p f k : Int} {g : Int → Int} (hk : 0 ≤ k ∧ k ≤ 20) (hg : ∀ j, 0 ≤ j → j < 105 → 0 ≤ g j ∧ g j ≤ 1000) : mC yX4_isTold cX4_isTold 4 (some FieldType.boolean) 0 [vR (some 360)] (mW I p f k g) (some (vI (bi (dupl k g)))) (mW I p f k g) := by
  have e5 := (mW_at I p f k g).1
  have eg := (mW_at I p f k g).2.2.2.2.1
  refine mC.of (by decide) rfl (Nat.le_of_ble_eq_true rfl) (fun G nx => ?_)
  refine x_ls (ls2 := [some (vR (some 360)), none, none, none]) rfl ?_
  refine x_iconst dX4_isTold_0 ?_
  refine x_istore_n dX4_isTold_1 (by decide) ?_
  refine rr_ind (W := fun q : Int × Option rr_V × Option rr_V => mm G yX4_isTold cX4_isTold 4 (some FieldType.boolean) 0 nx _ _ 2 [some (vR (some 360)), some (vI q.1), q.2.1, q.2.2] [] (mW I p f k g)) (fun q => (k - q.1).toNat) (fun q => 0 ≤ q.1 ∧ q.1 ≤ k ∧ (∀ f, 0 ≤ f → f < q.1 → ¬ ∀ y, 0 ≤ y → y < 5 → g (5 * f + y) = g (5 * k + y))) ?_ (0, none, none) ⟨by simp, by simp; omega, fun f h1 h2 => by simp at h2; omega⟩
  rintro ⟨q, u, v⟩ ⟨hq, hqk, hno⟩ ih
  simp only at hq hqk hno ih
  dsimp only
  refine x_iload_n dX4_isTold_2 rfl ?_
  refine x_aload_n dX4_isTold_3 rfl ?_
  refine m_getI (kf := 5) 5 (by decide) rfl rfl q2120 rfl dX4_isTold_4 ?_
  rw [e5]
  refine x_icmp_ge (t := 73) dX4_isTold_7 (by decide) (by omega) (fun c_7 => ?_) (fun c_7 => ?_)
  · skip
    have hk2 : q = k := by omega
    refine x_iconst dX4_isTold_73 ?_
    refine x_zret rfl dX4_isTold_74 (by first | exact Or.inl rfl | exact Or.inr rfl | exact bi_01 _ | omega) (Nat.le_refl _) (Nat.le_refl _) ?_
    exact ⟨rF (fun ⟨f, h1, h2, h3⟩ => hno f h1 (by omega) h3), rfl, rfl⟩
  · skip
    refine x_iconst dX4_isTold_10 ?_
    refine x_istore_n dX4_isTold_11 (by decide) ?_
    refine x_iconst dX4_isTold_12 ?_
    refine x_istore_n dX4_isTold_13 (by decide) ?_
    refine rr_ind (W := fun z : Int × Int => mm G yX4_isTold cX4_isTold 4 (some FieldType.boolean) 0 nx _ _ 14 [some (vR (some 360)), some (vI q), some (vI z.1), some (vI z.2)] [] (mW I p f k g)) (fun z => (5 - z.2).toNat) (fun z => 0 ≤ z.2 ∧ z.2 ≤ 5 ∧ ((z.1 = 1 ∧ ∀ y, 0 ≤ y → y < z.2 → g (5 * q + y) = g (5 * k + y)) ∨ (z.1 = 0 ∧ ¬ ∀ y, 0 ≤ y → y < 5 → g (5 * q + y) = g (5 * k + y)))) ?_ (1, 0) ⟨by simp, by simp, Or.inl ⟨rfl, fun y h1 h2 => by simp at h2; omega⟩⟩
    rintro ⟨is, y⟩ ⟨hy, hy5, hc⟩ ih2
    simp only at hy hy5 hc ih2
    dsimp only
    refine x_iload_n dX4_isTold_14 rfl ?_
    refine x_iconst dX4_isTold_15 ?_
    refine x_icmp_ge (t := 61) dX4_isTold_16 (by decide) (by omega) (fun c_16 => ?_) (fun c_16 => ?_)
    · skip
      have hy2 : y = 5 := by omega
      subst hy2
      refine x_iload_n dX4_isTold_61 rfl ?_
      refine x_if_eq (t := 67) dX4_isTold_62 (by decide) (by omega) (fun c_62 => ?_) (fun c_62 => ?_)
      · skip
        have hB := hc.resolve_left (fun z => by omega)
        have hgo := ih (q + 1, some (vI is), some (vI 5)) ⟨by simp only; omega, by simp only; omega, fun f h1 h2 => by
            by_cases e : f = q
            · rw [e]; exact hB.2
            · exact hno f h1 (by simp only at h2; omega)⟩ (by simp only; omega)
        refine x_iinc dX4_isTold_67 rfl (by decide) ?_
        refine x_goto (t := 2) dX4_isTold_70 (by decide) ?_
        exact hgo
      · skip
        have hA := hc.resolve_right (fun z => by omega)
        refine x_iconst dX4_isTold_65 ?_
        refine x_zret rfl dX4_isTold_66 (by first | exact Or.inl rfl | exact Or.inr rfl | exact bi_01 _ | omega) (Nat.le_refl _) (Nat.le_refl _) ?_
        exact ⟨rT ⟨q, hq, by omega, hA.2⟩, rfl, rfl⟩
    · skip
      refine x_iload_n dX4_isTold_19 rfl ?_
      refine x_if_eq (t := 53) dX4_isTold_20 (by decide) (by omega) (fun c_20 => ?_) (fun c_20 => ?_)
      · skip
        have hB := hc.resolve_left (fun z => by omega)
        have hgo := ih2 (0, y + 1) ⟨by simp only; omega, by simp only; omega, Or.inr ⟨rfl, hB.2⟩⟩ (by simp only; omega)
        refine x_iconst dX4_isTold_53 ?_
        refine x_istore_n dX4_isTold_54 (by decide) ?_
        refine x_iinc dX4_isTold_55 rfl (by decide) ?_
        refine x_goto (t := 14) dX4_isTold_58 (by decide) ?_
        exact hgo
      · skip
        have hA := hc.resolve_right (fun z => by omega)
        have g1 := hg (5 * q + y) (by omega) (by omega)
        have g2 := hg (5 * k + y) (by omega) (by omega)
        refine x_aload_n dX4_isTold_23 rfl ?_
        refine m_getA (kf := 7) 7 (a := 363) (by decide) rfl rfl q2122 rfl rfl dX4_isTold_24 ?_
        refine x_iconst dX4_isTold_27 ?_
        refine x_iload_n dX4_isTold_28 rfl ?_
        refine x_imul dX4_isTold_29 ?_
        refine x_iload_n dX4_isTold_30 rfl ?_
        refine x_iadd dX4_isTold_31 ?_
        refine m_iald (n := 105) rfl rfl (by decide) (by omega) dX4_isTold_32 ?_
        rw [eg]
        refine x_aload_n dX4_isTold_33 rfl ?_
        refine m_getA (kf := 7) 7 (a := 363) (by decide) rfl rfl q2122 rfl rfl dX4_isTold_34 ?_
        refine x_iconst dX4_isTold_37 ?_
        refine x_aload_n dX4_isTold_38 rfl ?_
        refine m_getI (kf := 5) 5 (by decide) rfl rfl q2120 rfl dX4_isTold_39 ?_
        rw [e5]
        refine x_imul dX4_isTold_42 ?_
        refine x_iload_n dX4_isTold_43 rfl ?_
        refine x_iadd dX4_isTold_44 ?_
        refine m_iald (n := 105) rfl rfl (by decide) (by omega) dX4_isTold_45 ?_
        rw [eg]
        refine x_icmp_ne (t := 53) dX4_isTold_46 (by decide) (by omega) (fun c_46 => ?_) (fun c_46 => ?_)
        · skip
          have hgo := ih2 (0, y + 1) ⟨by simp only; omega, by simp only; omega, Or.inr ⟨rfl, fun z => c_46 (z y hy (by omega))⟩⟩ (by simp only; omega)
          refine x_iconst dX4_isTold_53 ?_
          refine x_istore_n dX4_isTold_54 (by decide) ?_
          refine x_iinc dX4_isTold_55 rfl (by decide) ?_
          refine x_goto (t := 14) dX4_isTold_58 (by decide) ?_
          exact hgo
        · skip
          have hgo := ih2 (1, y + 1) ⟨by simp only; omega, by simp only; omega, Or.inl ⟨rfl, fun z h1 h2 => by
              by_cases e : z = y
              · rw [e]; exact c_46
              · exact hA.2 z h1 (by simp only at h2; omega)⟩⟩ (by simp only; omega)
          refine x_iconst dX4_isTold_49 ?_
          refine x_goto (t := 54) dX4_isTold_50 (by decide) ?_
          refine x_istore_n dX4_isTold_54 (by decide) ?_
          refine x_iinc dX4_isTold_55 rfl (by decide) ?_
          refine x_goto (t := 14) dX4_isTold_58 (by decide) ?_
          exact hgo
