/-! SYSTEM 11: onlyAt, cluesOf -/
set_option maxRecDepth 100000
theorem cnt_lem (P : Int → Prop) {k : Int} (h : 0 ≤ k) : ∀ m : Nat, cnt P k ≤ cnt P (k + m) := by
  intro m
  induction m with
  | zero => rw [show k + ((0 : Nat) : Int) = k by omega]; exact Int.le_refl _
  | succ m ih =>
    have := bi_01 (P (k + m))
    rw [show k + ((m + 1 : Nat) : Int) = k + m + 1 by omega, cnt_up P (by omega)]
    omega
section WD
variable {G : rr_G} {nx : Nat} {K N : Nat → Nat} {I I1 I2 J : Nat → Int → Int} {R : Nat → Int → Option Nat} {T a x y : Nat} {p q : List Int}
abbrev dfP (p q : List Int) (k : Int) : Prop := p.getD k.toNat 0 ≠ q.getD k.toNat 0
def OaI (p q : List Int) (k z : Int) : Prop := (z = -1 ∧ cnt (dfP p q) k = 0 ∧ ∀ i, 0 ≤ i → i < k → ¬ dfP p q i) ∨ ((0 ≤ z ∧ z < k) ∧ cnt (dfP p q) k = 1 ∧ ∀ i, 0 ≤ i → i < k → (dfP p q i ↔ i = z))
def OaP (h : rr_H) (nx : Nat) (p q : List Int) : rr_V → rr_H → Nat → Prop := fun w h2 n2 => ∃ z, w = vI z ∧ h2 = h ∧ nx = n2 ∧ ((z = -1 ∧ dif p q ≠ 1) ∨ ((0 ≤ z ∧ z < p.length) ∧ dif p q = 1 ∧ ∀ i : Int, 0 ≤ i → i < (p.length : Int) → (dfP p q i ↔ i = z)))
theorem jc_onlyAt (hx : Wd K N I R x p) (hy : Wd K N I R y q) (hl : q.length = p.length) : gP G yX0_onlyAt cX0_onlyAt 4 ((some FieldType.int)) 5 0 0 [vR (some x), vR (some y)] (K, N, I, R) nx (OaP (K, N, I, R) nx p q) := by
  have hKx := hx.1
  have hKy := hy.1
  have hw := hx.2.1
  have hw2 := hy.2.1
  obtain ⟨s, b, hs, hS⟩ := hx.2.2
  have hKs := hS.1.1
  have hn := hw.1
  refine gP.of (by decide) rfl (Nat.le_of_ble_eq_true rfl) ?_
  refine x_ls (ls2 := [some (vR (some x)), some (vR (some y)), none, none]) rfl ?_
  refine x_iconst dX0_onlyAt_0 ?_
  refine x_istore_n dX0_onlyAt_1 (by decide) ?_
  refine x_iconst dX0_onlyAt_2 ?_
  refine x_istore_n dX0_onlyAt_3 (by decide) ?_
  refine x_ls (ls2 := [some (vR (some x)), some (vR (some y)), some (vI (-1)), some (vI 0)]) rfl ?_
  refine s_for (W := fun (k : Int) (z : Int) => gp G yX0_onlyAt cX0_onlyAt 4 ((some FieldType.int)) 5 0 0 (OaP (K, N, I, R) nx p q) 4 [some (vR (some x)), some (vR (some y)), some (vI z), some (vI k)] [] (K, N, I, R) nx 0 0) (fun k z => OaI p q k z) 0 (p.length : Int) (-1) (by omega) (Or.inl ⟨rfl, cnt_0 _, fun i h0 h1 => by omega⟩) ?_
  intro k z h0 hk hz ih
  have hzr : -1 ≤ z ∧ z < 20 := by rcases hz with h | h <;> omega
  have hup := cnt_up (dfP p q) h0
  have hpk := fun hlt : k < p.length => hw.at (k := k.toNat) (by omega)
  have hqk := fun hlt : k < p.length => hw2.at (k := k.toNat) (by omega)
  refine x_iload_n dX0_onlyAt_4 rfl ?_
  refine x_aload_n dX0_onlyAt_5 rfl ?_
  refine g_getRN 0 (r := some s) (ci := 6) (kf := 0) rfl (by decide) (by decide) rfl rfl q1031 rfl (by first | assumption | grind) (hs) dX0_onlyAt_6 ?_
  refine g_cv0 (ci := 14) (jc_length hS) fJ7_length q551 rfl (by decide) (by first | assumption | grind) (by decide) (Nat.le_of_ble_eq_true rfl) (by omega) (by omega) dX0_onlyAt_9 (fun v h2 n2 hp => ?_)
  obtain ⟨rfl, rfl, rfl⟩ := hp
  rw [List.length_map]
  refine x_icmp_ge (t := 46) dX0_onlyAt_12 (by decide) (by omega) (fun c_12 => ?_) (fun c_12 => ?_)
  · skip
    refine x_iload_n dX0_onlyAt_46 rfl ?_
    refine gp_iret rfl dX0_onlyAt_47 (by omega) (by omega) ?_
    have hke : k = p.length := by omega
    subst hke
    refine ⟨z, rfl, rfl, rfl, ?_⟩
    rcases hz with h | h
    · exact Or.inl ⟨h.1, fun w => by have w2 : cnt (dfP p q) (p.length : Int) = 1 := w; omega⟩
    · exact Or.inr ⟨h.1, h.2.1, h.2.2⟩
  · skip
    have hlt : k < p.length := by omega
    replace hpk := hpk hlt
    replace hqk := hqk hlt
    refine x_aload_n dX0_onlyAt_15 rfl ?_
    refine x_iload_n dX0_onlyAt_16 rfl ?_
    refine g_cv1 (ci := 6) (jc_sign hx (by omega)) fX3_sign q1264 rfl (by decide) (by first | assumption | grind) (by decide) (Nat.le_of_ble_eq_true rfl) (by omega) (by omega) dX0_onlyAt_17 (fun v h2 n2 hp => ?_)
    obtain ⟨rfl, rfl, rfl⟩ := hp
    refine x_aload_n dX0_onlyAt_20 rfl ?_
    refine x_iload_n dX0_onlyAt_21 rfl ?_
    refine g_cv1 (ci := 6) (jc_sign hy (by omega)) fX3_sign q1264 rfl (by decide) (by first | assumption | grind) (by decide) (Nat.le_of_ble_eq_true rfl) (by omega) (by omega) dX0_onlyAt_22 (fun v h2 n2 hp => ?_)
    obtain ⟨rfl, rfl, rfl⟩ := hp
    refine x_icmp_ne (t := 31) dX0_onlyAt_25 (by decide) (by omega) (fun c_25 => ?_) (fun c_25 => ?_)
    · skip
      refine x_iload_n dX0_onlyAt_31 rfl ?_
      refine x_iconst dX0_onlyAt_32 ?_
      refine x_icmp_eq (t := 38) dX0_onlyAt_33 (by decide) (by omega) (fun c_33 => ?_) (fun c_33 => ?_)
      · skip
        refine x_iload_n dX0_onlyAt_38 rfl ?_
        refine x_istore_n dX0_onlyAt_39 (by decide) ?_
        refine x_iinc dX0_onlyAt_40 rfl (by decide) ?_
        refine x_goto (t := 4) dX0_onlyAt_43 (by decide) ?_
        have hne : dfP p q k := c_25
        rw [bi_t hne] at hup
        refine ih _ hlt ?_
        rcases hz with h | h
        · refine Or.inr ⟨by omega, by omega, fun i i0 i1 => ?_⟩
          by_cases e : i = k
          · rw [e]; exact ⟨fun _ => rfl, fun _ => hne⟩
          · exact ⟨fun w => absurd w (h.2.2 i i0 (by omega)), fun w => absurd w e⟩
        · omega
      · skip
        refine x_iconst dX0_onlyAt_36 ?_
        refine gp_iret rfl dX0_onlyAt_37 (by omega) (by omega) ?_
        refine ⟨-1, rfl, rfl, rfl, Or.inl ⟨rfl, ?_⟩⟩
        have h1 : cnt (dfP p q) k = 1 := by rcases hz with h | h; exact absurd h.1 c_33; exact h.2.1
        rw [bi_t (show dfP p q k from c_25), h1] at hup
        have h2 := cnt_lem (dfP p q) (k := k + 1) (by omega) (p.length - k - 1).toNat
        rw [show k + 1 + (((p.length - k - 1).toNat : Nat) : Int) = (p.length : Int) by omega] at h2
        intro h3
        have h4 : cnt (dfP p q) (p.length : Int) = 1 := h3
        omega
    · skip
      refine x_goto (t := 40) dX0_onlyAt_28 (by decide) ?_
      refine x_iinc dX0_onlyAt_40 rfl (by decide) ?_
      refine x_goto (t := 4) dX0_onlyAt_43 (by decide) ?_
      have hne : ¬ dfP p q k := fun w => w c_25
      rw [bi_f hne] at hup
      refine ih _ hlt ?_
      rcases hz with h | h
      · refine Or.inl ⟨h.1, by omega, fun i i0 i1 => ?_⟩
        by_cases e : i = k
        · rw [e]; exact hne
        · exact h.2.2 i i0 (by omega)
      · refine Or.inr ⟨by omega, by omega, fun i i0 i1 => ?_⟩
        by_cases e : i = k
        · rw [e]; exact ⟨fun w => absurd w hne, fun w => by omega⟩
        · exact h.2.2 i i0 (by omega)
/-- behind cluesOf: the clues of two words come in -/
def CoP (I : Nat → Int → Int) (C : Int → Int → Int → Prop) (I2 : Nat → Int → Int) : Prop := (∀ x, x ≠ 346 → x ≠ 347 → I2 x = I x) ∧ ∀ u v, 0 ≤ u → u < 20 → 0 ≤ v → v < 32 → (tb (I2 346 u) v ↔ (tb (I 346 u) v ∨ C 0 u v)) ∧ (tb (I2 347 u) v ↔ (tb (I 347 u) v ∨ C 1 u v))
theorem CoP.none {C : Int → Int → Int → Prop} (h : ∀ k u v, ¬ C k u v) : CoP I C I := ⟨fun _ _ _ => rfl, fun u v _ _ _ _ => ⟨⟨Or.inl, fun w => w.elim id (fun z => absurd z (h _ _ _))⟩, ⟨Or.inl, fun w => w.elim id (fun z => absurd z (h _ _ _))⟩⟩⟩
theorem twoOf_ne {a u v : Int} : ¬ twoOf a a u v := fun h => by unfold twoOf at h; omega
theorem clW_at {z : Int} (hn : 2 ≤ p.length) (hl : q.length = p.length) (hz : (z = -1 ∧ dif p q ≠ 1) ∨ ((0 ≤ z ∧ z < p.length) ∧ dif p q = 1 ∧ ∀ i : Int, 0 ≤ i → i < (p.length : Int) → (dfP p q i ↔ i = z))) (k u v : Int) : clW p q k u v ↔ ((k = 0 ∧ z = p.length - 1 ∧ twoOf (p.getD z.toNat 0) (q.getD z.toNat 0) u v) ∨ (k = 1 ∧ z = 0 ∧ twoOf (p.getD z.toNat 0) (q.getD z.toNat 0) u v)) := by
  rcases hz with ⟨h1, h2⟩ | ⟨h1, h2, h3⟩
  · constructor
    · intro w; exact absurd w.1.2.2 h2
    · rintro (w | w) <;> omega
  · have e1 := h3 (p.length - 1) (by omega) (by omega)
    have e0 := h3 0 (by omega) (by omega)
    have l1 : lst p = p.getD (((p.length : Int) - 1).toNat) 0 := by unfold lst; congr 1; omega
    have l2 : lst q = q.getD (((p.length : Int) - 1).toNat) 0 := by unfold lst; rw [hl]; congr 1; omega
    have z0 : p.getD 0 0 = p.getD (0 : Int).toNat 0 ∧ q.getD 0 0 = q.getD (0 : Int).toNat 0 := ⟨rfl, rfl⟩
    constructor
    · rintro ⟨-, w | w⟩
      · by_cases e : z = p.length - 1
        · left; refine ⟨w.1, e, ?_⟩; rw [e, ← l1, ← l2]; exact w.2
        · exfalso
          have : ¬ dfP p q (p.length - 1) := fun d => e (e1.mp d).symm
          have e5 : lst p = lst q := by rw [l1, l2]; exact Classical.not_not.mp this
          rw [e5] at w; exact twoOf_ne w.2
      · by_cases e : z = 0
        · right; refine ⟨w.1, e, ?_⟩; rw [e]; exact w.2
        · exfalso
          have : ¬ dfP p q 0 := fun d => e (e0.mp d).symm
          have e5 : p.getD 0 0 = q.getD 0 0 := Classical.not_not.mp this
          rw [e5] at w; exact twoOf_ne w.2
    · rintro (⟨w1, w2, w3⟩ | ⟨w1, w2, w3⟩)
      · refine ⟨⟨hn, hl, h2⟩, Or.inl ⟨w1, ?_⟩⟩
        rw [l1, l2, ← w2]; exact w3
      · refine ⟨⟨hn, hl, h2⟩, Or.inr ⟨w1, ?_⟩⟩
        rw [w2] at w3; exact w3
theorem jc_cluesOf (hs : Ss K N R) (hx : Wd K N I R x p) (hy : Wd K N I R y q) : gW G yX0_cluesOf cX0_cluesOf 5 (none) 6 0 0 [vR (some 300), vR (some x), vR (some y)] (K, N, I, R) nx (gI K N R nx (CoP I (clW p q))) := by
  have hn346 : N 346 = 20 := hs.n 346 (by decide)
  have hn347 : N 347 = 20 := hs.n 347 (by decide)
  have hKx := hx.1
  have hKy := hy.1
  have hw := hx.2.1
  have hw2 := hy.2.1
  obtain ⟨s, b, hs1, hS⟩ := hx.2.2
  obtain ⟨s', b', hs2, hS2⟩ := hy.2.2
  have hKs := hS.1.1
  have hKs2 := hS2.1.1
  have hn := hw.1
  have hn2 := hw2.1
  refine gW.of (by decide) rfl (Nat.le_of_ble_eq_true rfl) ?_
  refine x_ls (ls2 := [some (vR (some 300)), some (vR (some x)), some (vR (some y)), none, none]) rfl ?_
  refine x_aload_n dX0_cluesOf_0 rfl ?_
  refine g_getRN 0 (r := some s) (ci := 6) (kf := 0) rfl (by decide) (by decide) rfl rfl q1031 rfl (by first | assumption | grind) (hs1) dX0_cluesOf_1 ?_
  refine g_cv0 (ci := 14) (jc_length hS) fJ7_length q551 rfl (by decide) (by first | assumption | grind) (by decide) (Nat.le_of_ble_eq_true rfl) (by omega) (by omega) dX0_cluesOf_4 (fun v h2 n2 hp => ?_)
  obtain ⟨rfl, rfl, rfl⟩ := hp
  rw [List.length_map]
  refine x_istore_n dX0_cluesOf_7 (by decide) ?_
  refine x_iload_n dX0_cluesOf_8 rfl ?_
  refine x_iconst dX0_cluesOf_9 ?_
  refine x_icmp_lt (t := 24) dX0_cluesOf_10 (by decide) (by omega) (fun c_10 => ?_) (fun c_10 => ?_)
  · skip
    refine gw_vret rfl dX0_cluesOf_24 (by omega) (by omega) ?_
    exact ⟨rfl, I, rfl, CoP.none (fun k u v w => by have := w.1; unfold tellsW at this; omega)⟩
  · skip
    refine x_aload_n dX0_cluesOf_13 rfl ?_
    refine g_getRN 0 (r := some (s')) (ci := 6) (kf := 0) rfl (by decide) (by decide) rfl rfl q1031 rfl (by first | assumption | grind) (hs2) dX0_cluesOf_14 ?_
    refine g_cv0 (ci := 14) (jc_length hS2) fJ7_length q551 rfl (by decide) (by first | assumption | grind) (by decide) (Nat.le_of_ble_eq_true rfl) (by omega) (by omega) dX0_cluesOf_17 (fun v h2 n2 hp => ?_)
    obtain ⟨rfl, rfl, rfl⟩ := hp
    rw [List.length_map]
    refine x_iload_n dX0_cluesOf_20 rfl ?_
    refine x_icmp_eq (t := 25) dX0_cluesOf_21 (by decide) (by omega) (fun c_21 => ?_) (fun c_21 => ?_)
    · skip
      refine x_aload_n dX0_cluesOf_25 rfl ?_
      refine x_aload_n dX0_cluesOf_26 rfl ?_
      refine g_cs2 (jc_onlyAt hx hy (by omega)) fX0_onlyAt q1261 (by decide) (Nat.le_of_ble_eq_true rfl) (by omega) (by omega) dX0_cluesOf_27 (fun v h2 n2 hp => ?_)
      obtain ⟨z, rfl, rfl, rfl, hz⟩ := hp
      have hzr : -1 ≤ z ∧ z < p.length := by rcases hz with h | h <;> omega
      refine x_istore dX0_cluesOf_30 (by decide) ?_
      refine x_iload dX0_cluesOf_32 rfl ?_
      refine x_iload_n dX0_cluesOf_34 rfl ?_
      refine x_iconst dX0_cluesOf_35 ?_
      refine x_isub dX0_cluesOf_36 ?_
      refine x_icmp_ne (t := 62) dX0_cluesOf_37 (by decide) (by omega) (fun c_37 => ?_) (fun c_37 => ?_)
      · skip
        refine x_iload dX0_cluesOf_62 rfl ?_
        refine x_if_ne (t := 86) dX0_cluesOf_64 (by decide) (by omega) (fun c_64 => ?_) (fun c_64 => ?_)
        · skip
          refine gw_vret rfl dX0_cluesOf_86 (by omega) (by omega) ?_
          exact ⟨rfl, I, rfl, CoP.none (fun k u v w => by have := (clW_at (by omega) (by omega) hz k u v).mp w; omega)⟩
        · skip
          have hz2 : (0 ≤ z ∧ z < p.length) := by omega
          have a1 := hw.at (k := z.toNat) (by omega)
          have a2 := hw2.at (k := z.toNat) (by omega)
          refine x_aload_n dX0_cluesOf_67 rfl ?_
          refine g_getR 18 (r := some 347) (ci := 1) (kf := 18) rfl (by decide) (by decide) rfl rfl q1326 rfl (hs.k 300 (by decide)) (hs.r 18 (by decide)) dX0_cluesOf_68 ?_
          refine x_aload_n dX0_cluesOf_71 rfl ?_
          refine x_iload dX0_cluesOf_72 rfl ?_
          refine g_cv1 (ci := 6) (jc_sign hx (by omega)) fX3_sign q1264 rfl (by decide) (by first | assumption | grind) (by decide) (Nat.le_of_ble_eq_true rfl) (by omega) (by omega) dX0_cluesOf_74 (fun v h2 n2 hp => ?_)
          obtain ⟨rfl, rfl, rfl⟩ := hp
          refine x_aload_n dX0_cluesOf_77 rfl ?_
          refine x_iload dX0_cluesOf_78 rfl ?_
          refine g_cv1 (ci := 6) (jc_sign hy (by omega)) fX3_sign q1264 rfl (by decide) (by first | assumption | grind) (by decide) (Nat.le_of_ble_eq_true rfl) (by omega) (by omega) dX0_cluesOf_80 (fun v h2 n2 hp => ?_)
          obtain ⟨rfl, rfl, rfl⟩ := hp
          refine g_ct3 (jc_links (hs.k 347 (by decide)) hn347 (by decide) a1 a2) fX0_links q1269 (by decide) (Nat.le_of_ble_eq_true rfl) (by omega) (by omega) dX0_cluesOf_83 (fun h2 n2 hp => ?_)
          obtain ⟨rfl, I2, rfl, l1, l2⟩ := hp
          refine gw_vret rfl dX0_cluesOf_86 (by omega) (by omega) ?_
          exact ⟨rfl, I2, rfl, fun x h1 h2 => l1 x h2, fun u v u0 u1 v0 v1 => ⟨by rw [l1 346 (by decide), clW_at (by omega) (by omega) hz]; exact ⟨Or.inl, fun w => w.elim id (fun t => by omega)⟩, by rw [l2 u v u0 u1 v0 v1, clW_at (by omega) (by omega) hz]; exact or_congr Iff.rfl ⟨fun w => Or.inr ⟨rfl, by omega, w⟩, fun w => w.elim (fun t => by omega) (fun t => t.2.2)⟩⟩⟩
      · skip
        have hz2 : (0 ≤ z ∧ z < p.length) ∧ dif p q = 1 ∧ ∀ i : Int, 0 ≤ i → i < (p.length : Int) → (dfP p q i ↔ i = z) := by rcases hz with h | h; omega; exact h
        have a1 := hw.at (k := z.toNat) (by omega)
        have a2 := hw2.at (k := z.toNat) (by omega)
        refine x_aload_n dX0_cluesOf_40 rfl ?_
        refine g_getR 17 (r := some 346) (ci := 1) (kf := 17) rfl (by decide) (by decide) rfl rfl q1325 rfl (hs.k 300 (by decide)) (hs.r 17 (by decide)) dX0_cluesOf_41 ?_
        refine x_aload_n dX0_cluesOf_44 rfl ?_
        refine x_iload dX0_cluesOf_45 rfl ?_
        refine g_cv1 (ci := 6) (jc_sign hx (by omega)) fX3_sign q1264 rfl (by decide) (by first | assumption | grind) (by decide) (Nat.le_of_ble_eq_true rfl) (by omega) (by omega) dX0_cluesOf_47 (fun v h2 n2 hp => ?_)
        obtain ⟨rfl, rfl, rfl⟩ := hp
        refine x_aload_n dX0_cluesOf_50 rfl ?_
        refine x_iload dX0_cluesOf_51 rfl ?_
        refine g_cv1 (ci := 6) (jc_sign hy (by omega)) fX3_sign q1264 rfl (by decide) (by first | assumption | grind) (by decide) (Nat.le_of_ble_eq_true rfl) (by omega) (by omega) dX0_cluesOf_53 (fun v h2 n2 hp => ?_)
        obtain ⟨rfl, rfl, rfl⟩ := hp
        refine g_ct3 (jc_links (hs.k 346 (by decide)) hn346 (by decide) a1 a2) fX0_links q1269 (by decide) (Nat.le_of_ble_eq_true rfl) (by omega) (by omega) dX0_cluesOf_56 (fun h2 n2 hp => ?_)
        obtain ⟨rfl, I2, rfl, l1, l2⟩ := hp
        refine x_goto (t := 86) dX0_cluesOf_59 (by decide) ?_
        refine gw_vret rfl dX0_cluesOf_86 (by omega) (by omega) ?_
        exact ⟨rfl, I2, rfl, fun x h1 h2 => l1 x h1, fun u v u0 u1 v0 v1 => ⟨by rw [l2 u v u0 u1 v0 v1, clW_at (by omega) (by omega) hz]; exact or_congr Iff.rfl ⟨fun w => Or.inl ⟨rfl, by omega, w⟩, fun w => w.elim (fun t => t.2.2) (fun t => by omega)⟩, by rw [l1 347 (by decide), clW_at (by omega) (by omega) hz]; exact ⟨Or.inl, fun w => w.elim id (fun t => by omega)⟩⟩⟩
    · skip
      refine gw_vret rfl dX0_cluesOf_24 (by omega) (by omega) ?_
      exact ⟨rfl, I, rfl, CoP.none (fun k u v w => by have := w.1; unfold tellsW at this; omega)⟩
end WD
