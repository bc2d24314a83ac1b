set_option maxRecDepth 100000
/-! THE MODEL's methods, 36: the tree -/
def jnA (n : Int) (s : Int → Int) (x y : Int) : Int → Int := fun j => if (0 ≤ j ∧ j < n) ∧ s j = y then x else s j
theorem c_joins {I : Nat → Int → Int} {x y : Int} (h4 : 0 ≤ I 360 4 ∧ I 360 4 ≤ 20) (hx : 0 ≤ x ∧ x < 20) (hy : 0 ≤ y ∧ y < 20) (hs : ∀ f, 0 ≤ f → f < I 360 4 → 0 ≤ I 372 f ∧ I 372 f < 20) : mC yX4_joins cX4_joins 4 none 0 [vR (some 360), vI x, vI y] I none (stA I 372 (jnA (I 360 4) (I 372) x y)) := by
  refine mC.of (by decide) rfl (Nat.le_of_ble_eq_true rfl) (fun G nx => ?_)
  refine x_ls (ls2 := [some (vR (some 360)), some (vI x), some (vI y), none]) rfl ?_
  refine x_iconst dX4_joins_0 ?_
  refine x_istore_n dX4_joins_1 (by decide) ?_
  refine x_h (h2 := mh (stA I 372 (jnA 0 (I 372) x y))) (by rw [show jnA 0 (I 372) x y = I 372 from by funext j; simp only [jnA]; rw [if_neg (by omega)], stA_self]) ?_
  refine rr_ind (W := fun k => mm G yX4_joins cX4_joins 4 none 0 nx _ _ 2 [some (vR (some 360)), some (vI x), some (vI y), some (vI k)] [] (stA I 372 (jnA k (I 372) x y))) (fun k => (I 360 4 - k).toNat) (fun k => 0 ≤ k ∧ k ≤ I 360 4) ?_ 0 (by omega)
  intro k hk ih
  have e4 : stA I 372 (jnA k (I 372) x y) 360 4 = I 360 4 := by rw [stA_ne I _ (by decide)]
  have ek : jnA k (I 372) x y k = I 372 k := by simp only [jnA]; rw [if_neg (by omega)]
  have hsk := fun q => hs k hk.1 q
  have hup : ∀ v, v = (if I 372 k = y then x else I 372 k) → upA (jnA k (I 372) x y) k v = jnA (k + 1) (I 372) x y := fun v hv => by
    funext j
    simp only [upA, jnA]
    by_cases e : j = k
    · rw [if_pos e, hv, e]
      by_cases e2 : I 372 k = y
      · rw [if_pos e2, if_pos ⟨by omega, e2⟩]
      · rw [if_neg e2, if_neg (fun z => e2 z.2)]
    · rw [if_neg e]
      by_cases e2 : (0 ≤ j ∧ j < k) ∧ I 372 j = y
      · rw [if_pos e2, if_pos ⟨by omega, e2.2⟩]
      · rw [if_neg e2, if_neg (fun z => e2 ⟨by omega, z.2⟩)]
  refine x_iload_n dX4_joins_2 rfl ?_
  refine x_aload_n dX4_joins_3 rfl ?_
  refine m_getI (kf := 4) 4 (by decide) rfl rfl q2119 rfl dX4_joins_4 ?_
  rw [e4]
  refine x_icmp_ge (t := 42) dX4_joins_7 (by decide) (by omega) (fun c_7 => ?_) (fun c_7 => ?_)
  · skip
    refine x_vret rfl dX4_joins_42 (Nat.le_refl _) (Nat.le_refl _) ?_
    exact ⟨rfl, by rw [show k = I 360 4 by omega], rfl⟩
  · skip
    have hsk := hsk (by omega)
    refine x_aload_n dX4_joins_10 rfl ?_
    refine m_getA (kf := 20) 20 (a := 372) (by decide) rfl rfl q2135 rfl rfl dX4_joins_11 ?_
    refine x_iload_n dX4_joins_14 rfl ?_
    refine x_aload_n dX4_joins_15 rfl ?_
    refine m_getA (kf := 20) 20 (a := 372) (by decide) rfl rfl q2135 rfl rfl dX4_joins_16 ?_
    refine x_iload_n dX4_joins_19 rfl ?_
    refine m_iald (n := 20) rfl rfl (by decide) (by omega) dX4_joins_20 ?_
    rw [stA_same, ek]
    refine x_iload_n dX4_joins_21 rfl ?_
    refine x_icmp_ne (t := 29) dX4_joins_22 (by decide) (by omega) (fun c_22 => ?_) (fun c_22 => ?_)
    · skip
      refine x_aload_n dX4_joins_29 rfl ?_
      refine m_getA (kf := 20) 20 (a := 372) (by decide) rfl rfl q2135 rfl rfl dX4_joins_30 ?_
      refine x_iload_n dX4_joins_33 rfl ?_
      refine m_iald (n := 20) rfl rfl (by decide) (by omega) dX4_joins_34 ?_
      rw [stA_same, ek]
      refine m_iast (n := 20) rfl rfl (by decide) (by omega) dX4_joins_35 ?_
      rw [stA_set, hup _ (by rw [if_neg c_22])]
      refine x_iinc dX4_joins_36 rfl (by decide) ?_
      refine x_goto (t := 2) dX4_joins_39 (by decide) ?_
      exact ih (k + 1) (by omega) (by omega)
    · skip
      refine x_iload_n dX4_joins_25 rfl ?_
      refine x_goto (t := 35) dX4_joins_26 (by decide) ?_
      refine m_iast (n := 20) rfl rfl (by decide) (by omega) dX4_joins_35 ?_
      rw [stA_set, hup _ (by rw [if_pos c_22])]
      refine x_iinc dX4_joins_36 rfl (by decide) ?_
      refine x_goto (t := 2) dX4_joins_39 (by decide) ?_
      exact ih (k + 1) (by omega) (by omega)
/-- twos by how unlike they are, in order: those of (a, b ..), of (a .., all), of (by .., all) -/
def lB (U : Int → Int → Int) (by_ a : Int) : Nat → Int → List (Int × Int × Int)
  | 0, _ => []
  | k + 1, b => (if U a b = by_ then [(by_, a, b)] else []) ++ lB U by_ a k (b + 1)
def lA (U : Int → Int → Int) (n by_ : Int) : Nat → Int → List (Int × Int × Int)
  | 0, _ => []
  | k + 1, a => lB U by_ a (n - (a + 1)).toNat (a + 1) ++ lA U n by_ k (a + 1)
def lY (U : Int → Int → Int) (n : Int) : Nat → Int → List (Int × Int × Int)
  | 0, _ => []
  | k + 1, y => lA U n y n.toNat 0 ++ lY U n k (y + 1)
/-- the twos that join -/
def krus (n : Int) : List (Int × Int × Int) → (Int → Int) → List (Int × Int × Int)
  | [], _ => []
  | t :: l, s => if s t.2.1 = s t.2.2 then krus n l s else t :: krus n l (jnA n s (s t.2.1) (s t.2.2))
def trAll (J : Nat → Int → Int) : List (Int × Int × Int) := krus (J 360 4) (lY (m_unlikeOf J) (J 360 4) 26 0) (sg0 (J 360 4) (J 372))
def trOf (t : Int × Int × Int) (w : Int) : Int := if w = 0 then t.1 else if w = 1 then t.2.1 else t.2.2
def TrPost (I : Nat → Int → Int) (k w z : Int) (J : Nat → Int → Int) : Prop := eqx I J [372] [] ∧ ((¬ ((0 ≤ k ∧ k ≤ I 360 4 - 2) ∧ 0 ≤ w ∧ w ≤ 2) ∧ z = -1) ∨ (((0 ≤ k ∧ k ≤ I 360 4 - 2) ∧ 0 ≤ w ∧ w ≤ 2) ∧ z = (match (trAll I)[k.toNat]? with | some t => trOf t w | none => -1)))
theorem unlikeOf_stA (I : Nat → Int → Int) (s : Int → Int) : m_unlikeOf (stA I 372 s) = m_unlikeOf I := by
  funext f g
  unfold m_unlikeOf m_unlikeBy m_dotOf
  rw [stA_ne I s (by decide)]
theorem jnA_in {n : Int} {s : Int → Int} {x y : Int} (hs : ∀ f, 0 ≤ f → f < n → 0 ≤ s f ∧ s f < 20) (hx : 0 ≤ x ∧ x < 20) : ∀ f, 0 ≤ f → f < n → 0 ≤ jnA n s x y f ∧ jnA n s x y f < 20 := fun f a b => by
  unfold jnA
  split
  · exact hx
  · exact hs f a b
theorem c_tree {I : Nat → Int → Int} {k w : Int} (hk : i32 k) (hw : i32 w) (h4 : 0 ≤ I 360 4 ∧ I 360 4 ≤ 20) : mQ yX4_tree cX4_tree 7 (some FieldType.int) 5 [vR (some 360), vI k, vI w] I (TrPost I k w) := by
  have e4 : ∀ s, stA I 372 s 360 4 = I 360 4 := fun s => by rw [stA_ne I s (by decide)]
  have eS : ∀ s, eqx I (stA I 372 s) [372] [] := fun s => ⟨fun x a b => stA_ne I s (by simpa using b), fun j _ => by rw [stA_ne I s (by decide)]⟩
  refine mQ.of (by decide) rfl (Nat.le_of_ble_eq_true rfl) (fun G nx => ?_)
  refine x_ls (ls2 := [some (vR (some 360)), some (vI k), some (vI w), none, none, none, none]) rfl ?_
  refine x_iload_n dX4_tree_0 rfl ?_
  refine x_iconst dX4_tree_1 ?_
  refine x_aload_n dX4_tree_2 rfl ?_
  refine m_getI (kf := 4) 4 (by decide) rfl rfl q2119 rfl dX4_tree_3 ?_
  refine x_iconst dX4_tree_6 ?_
  refine x_isub dX4_tree_7 ?_
  refine m_cs3 (c_in (by omega) (by omega) (by omega)) fX4_in q2299 (by decide) (Nat.le_of_ble_eq_true rfl) dX4_tree_8 ?_
  refine x_if_eq_b (t := 23) dX4_tree_11 (by decide) (fun c_11 => ?_) (fun c_11 => ?_)
  · skip
    refine x_iconst dX4_tree_23 ?_
    refine x_iret rfl dX4_tree_24 (Nat.le_refl _) (Nat.le_refl _) ?_
    exact ⟨_, rfl, rfl, _, rfl, eqx.rf _ _ _, Or.inl ⟨by omega, rfl⟩⟩
  · skip
    refine x_iload_n dX4_tree_14 rfl ?_
    refine x_iconst dX4_tree_15 ?_
    refine x_iconst dX4_tree_16 ?_
    refine m_cs3 (c_in (by omega) (by omega) (by omega)) fX4_in q2299 (by decide) (Nat.le_of_ble_eq_true rfl) dX4_tree_17 ?_
    refine x_if_ne_b (t := 25) dX4_tree_20 (by decide) (fun c_20 => ?_) (fun c_20 => ?_)
    · skip
      refine x_iconst dX4_tree_25 ?_
      refine x_istore_n dX4_tree_26 (by decide) ?_
      have hok : (0 ≤ k ∧ k ≤ I 360 4 - 2) ∧ 0 ≤ w ∧ w ≤ 2 := by omega
      refine x_h (h2 := mh (stA I 372 (sg0 0 (I 372)))) (by rw [sg0_0, stA_self]) ?_
      refine rr_ind (W := fun q => mq G yX4_tree cX4_tree 7 (some FieldType.int) 5 nx _ 27 [some (vR (some 360)), some (vI k), some (vI w), some (vI q), none, none, none] [] (stA I 372 (sg0 q (I 372)))) (fun q => (I 360 4 - q).toNat) (fun q => 0 ≤ q ∧ q ≤ I 360 4) ?_ 0 (by omega)
      intro q hq ih
      refine x_iload_n dX4_tree_27 rfl ?_
      refine x_aload_n dX4_tree_28 rfl ?_
      refine m_getI (kf := 4) 4 (by decide) rfl rfl q2119 rfl dX4_tree_29 ?_
      rw [e4]
      refine x_icmp_ge (t := 48) dX4_tree_32 (by decide) (by omega) (fun c_32 => ?_) (fun c_32 => ?_)
      · skip
        have hq2 : q = I 360 4 := by omega
        subst hq2
        refine x_iconst dX4_tree_48 ?_
        refine x_istore_n dX4_tree_49 (by decide) ?_
        refine x_iconst dX4_tree_50 ?_
        refine x_istore dX4_tree_51 (by decide) ?_
        clear ih hq
        have htr : trAll I = [] ++ krus (I 360 4) (lY (m_unlikeOf I) (I 360 4) (26 - (0 : Int)).toNat 0) (sg0 (I 360 4) (I 372)) := rfl
        have hs0 : ∀ f, 0 ≤ f → f < I 360 4 → 0 ≤ sg0 (I 360 4) (I 372) f ∧ sg0 (I 360 4) (I 372) f < 20 := fun f a b => by rw [sg0_in ⟨a, b⟩]; omega
        generalize sg0 (I 360 4) (I 372) = s0 at *
        refine x_loc (ls2 := [some (vR (some 360)), some (vI k), some (vI w), some (vI ((((0 : Int), ([] : List (Int × Int × Int)), s0) : Int × List (Int × Int × Int) × (Int → Int)).2.1.length : Int)), some (vI (((0 : Int), ([] : List (Int × Int × Int)), s0) : Int × List (Int × Int × Int) × (Int → Int)).1), none, none]) (by repeat first | exact trivial | refine ⟨Or.inr rfl, ?_⟩ | refine ⟨Or.inl rfl, ?_⟩) ?_
        refine rr_ind (W := fun q : Int × List (Int × Int × Int) × (Int → Int) => mq G yX4_tree cX4_tree 7 (some FieldType.int) 5 nx _ 53 [some (vR (some 360)), some (vI k), some (vI w), some (vI (q.2.1.length : Int)), some (vI q.1), none, none] [] (stA I 372 q.2.2)) (fun q => (26 - q.1).toNat) (fun q => (0 ≤ q.1 ∧ q.1 ≤ 26) ∧ (q.2.1.length : Int) ≤ k ∧ (∀ f, 0 ≤ f → f < I 360 4 → 0 ≤ q.2.2 f ∧ q.2.2 f < 20) ∧ trAll I = q.2.1 ++ krus (I 360 4) (lY (m_unlikeOf I) (I 360 4) (26 - q.1).toNat q.1) q.2.2) ?_ ((0 : Int), [], s0) ⟨by simp, by simp; omega, hs0, htr⟩
        clear hs0 htr
        rintro ⟨y, dn, s⟩ ⟨hy, hdn, hs, htr⟩ ih
        simp only at hy hdn hs htr ih
        dsimp only
        refine x_iload dX4_tree_53 rfl ?_
        refine x_bipush dX4_tree_55 (by decide) ?_
        refine x_icmp_gt (t := 186) dX4_tree_57 (by decide) (by omega) (fun c_57 => ?_) (fun c_57 => ?_)
        · skip
          refine x_iconst dX4_tree_186 ?_
          refine x_iret rfl dX4_tree_187 (Nat.le_refl _) (Nat.le_refl _) ?_
          rw [show (26 - y).toNat = 0 by omega] at htr
          have htr : trAll I = dn ++ [] := htr
          refine ⟨_, rfl, rfl, _, rfl, eS _, Or.inr ⟨hok, ?_⟩⟩
          rw [htr, List.append_nil, List.getElem?_eq_none (by omega)]
        · skip
          refine x_iconst dX4_tree_60 ?_
          refine x_istore dX4_tree_61 (by decide) ?_
          have hYs : lY (m_unlikeOf I) (I 360 4) (26 - y).toNat y = lA (m_unlikeOf I) (I 360 4) y (I 360 4 - 0).toNat 0 ++ lY (m_unlikeOf I) (I 360 4) (26 - (y + 1)).toNat (y + 1) := by
            rw [show (26 - y).toNat = (26 - (y + 1)).toNat + 1 by omega, Int.sub_zero]
            rfl
          rw [hYs] at htr
          generalize hRY : lY (m_unlikeOf I) (I 360 4) (26 - (y + 1)).toNat (y + 1) = RY at *
          clear hYs
          refine x_loc (ls2 := [some (vR (some 360)), some (vI k), some (vI w), some (vI ((((0 : Int), dn, s) : Int × List (Int × Int × Int) × (Int → Int)).2.1.length : Int)), some (vI y), some (vI (((0 : Int), dn, s) : Int × List (Int × Int × Int) × (Int → Int)).1), none]) (by repeat first | exact trivial | refine ⟨Or.inr rfl, ?_⟩ | refine ⟨Or.inl rfl, ?_⟩) ?_
          refine rr_ind (W := fun q : Int × List (Int × Int × Int) × (Int → Int) => mq G yX4_tree cX4_tree 7 (some FieldType.int) 5 nx _ 63 [some (vR (some 360)), some (vI k), some (vI w), some (vI (q.2.1.length : Int)), some (vI y), some (vI q.1), none] [] (stA I 372 q.2.2)) (fun q => (I 360 4 - q.1).toNat) (fun q => (0 ≤ q.1 ∧ q.1 ≤ I 360 4) ∧ (q.2.1.length : Int) ≤ k ∧ (∀ f, 0 ≤ f → f < I 360 4 → 0 ≤ q.2.2 f ∧ q.2.2 f < 20) ∧ trAll I = q.2.1 ++ krus (I 360 4) (lA (m_unlikeOf I) (I 360 4) y (I 360 4 - q.1).toNat q.1 ++ RY) q.2.2) ?_ ((0 : Int), dn, s) ⟨by simp only; omega, hdn, hs, htr⟩
          clear hdn hs htr
          rintro ⟨a, dn, s⟩ ⟨ha, hdn, hs, htr⟩ ih2
          simp only at ha hdn hs htr ih2
          dsimp only
          refine x_iload dX4_tree_63 rfl ?_
          refine x_aload_n dX4_tree_65 rfl ?_
          refine m_getI (kf := 4) 4 (by decide) rfl rfl q2119 rfl dX4_tree_66 ?_
          rw [e4]
          refine x_icmp_ge (t := 180) dX4_tree_69 (by decide) (by omega) (fun c_69 => ?_) (fun c_69 => ?_)
          · skip
            have hgo := ih (y + 1, dn, s) ⟨by simp only; omega, hdn, hs, by
              simp only
              rw [hRY]
              rw [show (I 360 4 - a).toNat = 0 by omega] at htr
              exact htr⟩ (by simp only; omega)
            refine x_iinc dX4_tree_180 rfl (by decide) ?_
            refine x_goto (t := 53) dX4_tree_183 (by decide) ?_
            exact x_loc (by repeat first | exact trivial | refine ⟨Or.inr rfl, ?_⟩ | refine ⟨Or.inl rfl, ?_⟩) hgo
          · skip
            refine x_iload dX4_tree_72 rfl ?_
            refine x_iconst dX4_tree_74 ?_
            refine x_iadd dX4_tree_75 ?_
            refine x_istore dX4_tree_76 (by decide) ?_
            have hAs : lA (m_unlikeOf I) (I 360 4) y (I 360 4 - a).toNat a = lB (m_unlikeOf I) y a (I 360 4 - (a + 1)).toNat (a + 1) ++ lA (m_unlikeOf I) (I 360 4) y (I 360 4 - (a + 1)).toNat (a + 1) := by
              rw [show (I 360 4 - a).toNat = (I 360 4 - (a + 1)).toNat + 1 by omega]
              rfl
            rw [hAs, List.append_assoc] at htr
            generalize hRA : lA (m_unlikeOf I) (I 360 4) y (I 360 4 - (a + 1)).toNat (a + 1) = RA at *
            clear hAs
            refine x_loc (ls2 := [some (vR (some 360)), some (vI k), some (vI w), some (vI (((a + 1, dn, s) : Int × List (Int × Int × Int) × (Int → Int)).2.1.length : Int)), some (vI y), some (vI a), some (vI ((a + 1, dn, s) : Int × List (Int × Int × Int) × (Int → Int)).1)]) (by repeat first | exact trivial | refine ⟨Or.inr rfl, ?_⟩ | refine ⟨Or.inl rfl, ?_⟩) ?_
            refine rr_ind (W := fun q : Int × List (Int × Int × Int) × (Int → Int) => mq G yX4_tree cX4_tree 7 (some FieldType.int) 5 nx _ 78 [some (vR (some 360)), some (vI k), some (vI w), some (vI (q.2.1.length : Int)), some (vI y), some (vI a), some (vI q.1)] [] (stA I 372 q.2.2)) (fun q => (I 360 4 - q.1).toNat) (fun q => (a < q.1 ∧ q.1 ≤ I 360 4) ∧ (q.2.1.length : Int) ≤ k ∧ (∀ f, 0 ≤ f → f < I 360 4 → 0 ≤ q.2.2 f ∧ q.2.2 f < 20) ∧ trAll I = q.2.1 ++ krus (I 360 4) (lB (m_unlikeOf I) y a (I 360 4 - q.1).toNat q.1 ++ (RA ++ RY)) q.2.2) ?_ (a + 1, dn, s) ⟨by simp only; omega, hdn, hs, htr⟩
            clear hdn hs htr
            rintro ⟨b, dn, s⟩ ⟨hb, hdn, hs, htr⟩ ih3
            simp only at hb hdn hs htr ih3
            dsimp only
            have hsa := hs a ha.1 (by omega)
            have hBs : b < I 360 4 → lB (m_unlikeOf I) y a (I 360 4 - b).toNat b = (if m_unlikeOf I a b = y then [(y, a, b)] else []) ++ lB (m_unlikeOf I) y a (I 360 4 - (b + 1)).toNat (b + 1) := fun z => by
              rw [show (I 360 4 - b).toNat = (I 360 4 - (b + 1)).toNat + 1 by omega]
              rfl
            have hUn := m_unlikeOf_in I a b
            have hsS : ∀ f, 0 ≤ f → f < stA I 372 s 360 4 → 0 ≤ stA I 372 s 372 f ∧ stA I 372 s 372 f < 20 := by rw [e4, stA_same]; exact hs
            refine x_iload dX4_tree_78 rfl ?_
            refine x_aload_n dX4_tree_80 rfl ?_
            refine m_getI (kf := 4) 4 (by decide) rfl rfl q2119 rfl dX4_tree_81 ?_
            rw [e4]
            refine x_icmp_ge (t := 174) dX4_tree_84 (by decide) (by omega) (fun c_84 => ?_) (fun c_84 => ?_)
            · skip
              have hgo := ih2 (a + 1, dn, s) ⟨by simp only; omega, hdn, hs, by
                simp only
                rw [hRA]
                rw [show (I 360 4 - b).toNat = 0 by omega] at htr
                exact htr⟩ (by simp only; omega)
              refine x_iinc dX4_tree_174 rfl (by decide) ?_
              refine x_goto (t := 63) dX4_tree_177 (by decide) ?_
              exact x_loc (by repeat first | exact trivial | refine ⟨Or.inr rfl, ?_⟩ | refine ⟨Or.inl rfl, ?_⟩) hgo
            · skip
              have hBs := hBs (by omega)
              have hsb := hs b (by omega) (by omega)
              refine x_aload_n dX4_tree_87 rfl ?_
              refine m_getA (kf := 20) 20 (a := 372) (by decide) rfl rfl q2135 rfl rfl dX4_tree_88 ?_
              refine x_iload dX4_tree_91 rfl ?_
              refine m_iald (n := 20) rfl rfl (by decide) (by omega) dX4_tree_93 ?_
              rw [stA_same]
              refine x_aload_n dX4_tree_94 rfl ?_
              refine m_getA (kf := 20) 20 (a := 372) (by decide) rfl rfl q2135 rfl rfl dX4_tree_95 ?_
              refine x_iload dX4_tree_98 rfl ?_
              refine m_iald (n := 20) rfl rfl (by decide) (by omega) dX4_tree_100 ?_
              rw [stA_same]
              refine x_icmp_eq (t := 168) dX4_tree_101 (by decide) (by omega) (fun c_101 => ?_) (fun c_101 => ?_)
              · skip
                have hgo := ih3 (b + 1, dn, s) ⟨by simp only; omega, hdn, hs, by
                  simp only
                  rw [htr, hBs]
                  split
                  · simp only [List.cons_append, List.nil_append, krus]
                    rw [if_pos c_101]
                  · rfl⟩ (by simp only; omega)
                refine x_iinc dX4_tree_168 rfl (by decide) ?_
                refine x_goto (t := 78) dX4_tree_171 (by decide) ?_
                exact x_loc (by repeat first | exact trivial | refine ⟨Or.inr rfl, ?_⟩ | refine ⟨Or.inl rfl, ?_⟩) hgo
              · skip
                refine x_aload_n dX4_tree_104 rfl ?_
                refine x_iload dX4_tree_105 rfl ?_
                refine x_iload dX4_tree_107 rfl ?_
                refine m_cv2 (c_unlikeOf (I := stA I 372 s) (by omega) (by omega)) fX4_unlikeOf q2410 (by decide) (Nat.le_of_ble_eq_true rfl) dX4_tree_109 ?_
                rw [unlikeOf_stA]
                refine x_iload dX4_tree_112 rfl ?_
                refine x_icmp_eq (t := 120) dX4_tree_114 (by decide) (by omega) (fun c_114 => ?_) (fun c_114 => ?_)
                · skip
                  have htr2 : trAll I = dn ++ ((y, a, b) :: krus (I 360 4) (lB (m_unlikeOf I) y a (I 360 4 - (b + 1)).toNat (b + 1) ++ (RA ++ RY)) (jnA (I 360 4) s (s a) (s b))) := by
                    rw [htr, hBs, if_pos c_114]
                    simp only [List.cons_append, List.nil_append, krus]
                    rw [if_neg c_101]
                  refine x_iload_n dX4_tree_120 rfl ?_
                  refine x_iload_n dX4_tree_121 rfl ?_
                  refine x_icmp_ne (t := 147) dX4_tree_122 (by decide) (by omega) (fun c_122 => ?_) (fun c_122 => ?_)
                  · skip
                    refine x_iinc dX4_tree_147 rfl (by decide) ?_
                    refine x_aload_n dX4_tree_150 rfl ?_
                    refine x_aload_n dX4_tree_151 rfl ?_
                    refine m_getA (kf := 20) 20 (a := 372) (by decide) rfl rfl q2135 rfl rfl dX4_tree_152 ?_
                    refine x_iload dX4_tree_155 rfl ?_
                    refine m_iald (n := 20) rfl rfl (by decide) (by omega) dX4_tree_157 ?_
                    rw [stA_same]
                    refine x_aload_n dX4_tree_158 rfl ?_
                    refine m_getA (kf := 20) 20 (a := 372) (by decide) rfl rfl q2135 rfl rfl dX4_tree_159 ?_
                    refine x_iload dX4_tree_162 rfl ?_
                    refine m_iald (n := 20) rfl rfl (by decide) (by omega) dX4_tree_164 ?_
                    rw [stA_same]
                    refine m_cw2 (c_joins (I := stA I 372 s) (by rw [e4]; omega) (by omega) (by omega) hsS) fX4_joins q2545 (by decide) (Nat.le_of_ble_eq_true rfl) dX4_tree_165 ?_
                    rw [e4, stA_same, stA_2]
                    have hgo := ih3 (b + 1, dn ++ [(y, a, b)], jnA (I 360 4) s (s a) (s b)) ⟨by simp only; omega, by simp; omega, jnA_in hs hsa, by simp only; rw [htr2]; simp⟩ (by simp only; omega)
                    refine x_iinc dX4_tree_168 rfl (by decide) ?_
                    refine x_goto (t := 78) dX4_tree_171 (by decide) ?_
                    exact x_loc (by rw [show (((b + 1, dn ++ [(y, a, b)], jnA (I 360 4) s (s a) (s b)) : Int × List (Int × Int × Int) × (Int → Int)).2.1.length : Int) = (dn.length : Int) + 1 by simp]; exact (by repeat first | exact trivial | refine ⟨Or.inr rfl, ?_⟩ | refine ⟨Or.inl rfl, ?_⟩)) hgo
                  · skip
                    have hz : ∀ z, z = trOf (y, a, b) w → TrPost I k w z (stA I 372 s) := fun z hz => ⟨eS _, Or.inr ⟨hok, by
                      rw [htr2, List.getElem?_append_right (by omega), show k.toNat - dn.length = 0 by omega]
                      exact hz⟩⟩
                    refine x_iload_n dX4_tree_125 rfl ?_
                    refine x_if_ne (t := 134) dX4_tree_126 (by decide) (by omega) (fun c_126 => ?_) (fun c_126 => ?_)
                    · skip
                      refine x_iload_n dX4_tree_134 rfl ?_
                      refine x_iconst dX4_tree_135 ?_
                      refine x_icmp_ne (t := 144) dX4_tree_136 (by decide) (by omega) (fun c_136 => ?_) (fun c_136 => ?_)
                      · skip
                        refine x_iload dX4_tree_144 rfl ?_
                        refine x_iret rfl dX4_tree_146 (Nat.le_refl _) (Nat.le_refl _) ?_
                        refine ⟨_, rfl, rfl, _, rfl, hz _ ?_⟩
                        unfold trOf
                        first | rw [if_pos (by assumption)] | rw [if_neg (by assumption), if_pos (by assumption)] | rw [if_neg (by assumption), if_neg (by assumption)]
                      · skip
                        refine x_iload dX4_tree_139 rfl ?_
                        refine x_goto (t := 146) dX4_tree_141 (by decide) ?_
                        refine x_iret rfl dX4_tree_146 (Nat.le_refl _) (Nat.le_refl _) ?_
                        refine ⟨_, rfl, rfl, _, rfl, hz _ ?_⟩
                        unfold trOf
                        first | rw [if_pos (by assumption)] | rw [if_neg (by assumption), if_pos (by assumption)] | rw [if_neg (by assumption), if_neg (by assumption)]
                    · skip
                      refine x_iload dX4_tree_129 rfl ?_
                      refine x_goto (t := 146) dX4_tree_131 (by decide) ?_
                      refine x_iret rfl dX4_tree_146 (Nat.le_refl _) (Nat.le_refl _) ?_
                      refine ⟨_, rfl, rfl, _, rfl, hz _ ?_⟩
                      unfold trOf
                      first | rw [if_pos (by assumption)] | rw [if_neg (by assumption), if_pos (by assumption)] | rw [if_neg (by assumption), if_neg (by assumption)]
                · skip
                  refine x_goto (t := 168) dX4_tree_117 (by decide) ?_
                  have hgo := ih3 (b + 1, dn, s) ⟨by simp only; omega, hdn, hs, by
                    simp only
                    rw [htr, hBs, if_neg c_114]
                    rfl⟩ (by simp only; omega)
                  refine x_iinc dX4_tree_168 rfl (by decide) ?_
                  refine x_goto (t := 78) dX4_tree_171 (by decide) ?_
                  exact x_loc (by repeat first | exact trivial | refine ⟨Or.inr rfl, ?_⟩ | refine ⟨Or.inl rfl, ?_⟩) hgo
      · skip
        refine x_aload_n dX4_tree_35 rfl ?_
        refine m_getA (kf := 20) 20 (a := 372) (by decide) rfl rfl q2135 rfl rfl dX4_tree_36 ?_
        refine x_iload_n dX4_tree_39 rfl ?_
        refine x_iload_n dX4_tree_40 rfl ?_
        refine m_iast (n := 20) rfl rfl (by decide) (by omega) dX4_tree_41 ?_
        rw [stA_set, sg0_s _ hq.1]
        refine x_iinc dX4_tree_42 rfl (by decide) ?_
        refine x_goto (t := 27) dX4_tree_45 (by decide) ?_
        exact ih (q + 1) (by omega) (by omega)
    · skip
      refine x_iconst dX4_tree_23 ?_
      refine x_iret rfl dX4_tree_24 (Nat.le_refl _) (Nat.le_refl _) ?_
      exact ⟨_, rfl, rfl, _, rfl, eqx.rf _ _ _, Or.inl ⟨by omega, rfl⟩⟩
