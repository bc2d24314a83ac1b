/-! SYSTEM 9: laysKnown -/
set_option maxRecDepth 100000
section KN
variable {G : rr_G} {nx : Nat} {K N : Nat → Nat} {I I1 I2 J : Nat → Int → Int} {R : Nat → Int → Option Nat} {T a b : Nat} {k its : Int}
def LkS (I J : Nat → Int → Int) (q0 q1 : Int) (I1 : Nat → Int → Int) : Prop := LkF I I1 ∧ LkA J 0 q0 (I1 348) ∧ LkA J 1 q1 (I1 349) ∧ LkB J q0 q1 (I1 300 21)
def twn (J : Nat → Int → Int) (s g : Int) : Prop := J 371 g = g ∧ (knV J 0 s ≠ -1 ∧ knV J 1 s ≠ -1) ∧ knV J 0 s = knV J 0 g ∧ knV J 1 s = knV J 1 g
def LkZ (J : Nat → Int → Int) (Pr : Int → Int → Prop) (z : Int) : Prop := ∀ s, 0 ≤ s → s < 32 → (tb z s ↔ (s < J 360 4 ∧ J 371 s = s) ∧ (ppS J 0 s ∨ ppS J 1 s ∨ ∃ g, (0 ≤ g ∧ g < J 360 4) ∧ (Pr s g ∨ Pr g s) ∧ twn J s g))
def LkT (I J : Nat → Int → Int) (Pr : Int → Int → Prop) (I1 : Nat → Int → Int) : Prop := LkF I I1 ∧ LkA J 0 (J 360 4) (I1 348) ∧ LkA J 1 (J 360 4) (I1 349) ∧ LkZ J Pr (I1 300 21)
theorem LkF.hyp (h : LkF I I1) (ht : Td K N R T) (hg : SgM I J T) (h0 : GrM I J 333 0) (h1 : GrM I J 334 1) (hu : GuM I J T) : SgM I1 J T ∧ GrM I1 J 333 0 ∧ GrM I1 J 334 1 ∧ GuM I1 J T := by
  have e0 : I1 T = I T := h.1 T (by have := ht.ne 0 (by decide) (x := 348) (by decide); omega) (by have := ht.ne 0 (by decide) (x := 349) (by decide); omega) (by have := ht.ne 0 (by decide) (x := 300) (by decide); omega)
  have e6 : I1 (T + 6) = I (T + 6) := h.1 _ (ht.ne 6 (by decide) (by decide)) (ht.ne 6 (by decide) (by decide)) (ht.ne 6 (by decide) (by decide))
  have e2 : I1 332 = I 332 := h.1 332 (by decide) (by decide) (by decide)
  have e3 : I1 333 = I 333 := h.1 333 (by decide) (by decide) (by decide)
  have e4 : I1 334 = I 334 := h.1 334 (by decide) (by decide) (by decide)
  unfold SgM GrM GuM at *
  rw [e0, e2, e3, e4, e6]
  exact ⟨hg, h0, h1, hu⟩
theorem LkF.put (h : LkF I I1) {x : Nat} {i v : Int} (hx : (x = 300 ∧ i = 21) ∨ x = 348 ∨ x = 349) : LkF I (rr_u2 I1 x i v) := by
  refine ⟨fun y h1 h2 h3 => ?_, fun j hj => ?_⟩
  · rw [rr_u2_of (by omega)]; exact h.1 y h1 h2 h3
  · rw [rr_u2_ne _ _ (by omega)]; exact h.2 j hj
theorem LkF.kw (h : LkF I I1) {b : Nat} (hb : b = 348 ∨ b = 349) (h2 : ∀ x, x ≠ b → I2 x = I1 x) : LkF I I2 := by
  refine ⟨fun y h3 h4 h5 => ?_, fun j hj => ?_⟩
  · rw [h2 y (by omega)]; exact h.1 y h3 h4 h5
  · rw [h2 300 (by omega)]; exact h.2 j hj
theorem LkZ.no {Pr Pr' : Int → Int → Prop} {z : Int} (h : LkZ J Pr z) (hp : ∀ s g, 0 ≤ s → s < J 360 4 → 0 ≤ g → g < J 360 4 → J 371 s = s → twn J s g → ((Pr' s g ∨ Pr' g s) ↔ (Pr s g ∨ Pr g s))) : LkZ J Pr' z := by
  intro s h0 h1
  rw [h s h0 h1]
  constructor
  · rintro ⟨w, v | v | ⟨g, g1, g2, g3⟩⟩
    · exact ⟨w, Or.inl v⟩
    · exact ⟨w, Or.inr (Or.inl v)⟩
    · exact ⟨w, Or.inr (Or.inr ⟨g, g1, (hp s g h0 w.1 g1.1 g1.2 w.2 g3).mpr g2, g3⟩)⟩
  · rintro ⟨w, v | v | ⟨g, g1, g2, g3⟩⟩
    · exact ⟨w, Or.inl v⟩
    · exact ⟨w, Or.inr (Or.inl v)⟩
    · exact ⟨w, Or.inr (Or.inr ⟨g, g1, (hp s g h0 w.1 g1.1 g1.2 w.2 g3).mp g2, g3⟩)⟩
theorem LkZ.yes {Pr Pr' : Int → Int → Prop} {z p q : Int} (h : LkZ J Pr z) (hn : J 360 4 ≤ 20) (hp : 0 ≤ p ∧ p < J 360 4) (hq : 0 ≤ q ∧ q < J 360 4) (sp : J 371 p = p) (hpq : twn J p q) (hP : ∀ x y, Pr' x y ↔ (Pr x y ∨ (x = p ∧ y = q))) : LkZ J Pr' (rr_or z (rr_or (rr_shl 1 p) (rr_shl 1 q))) := by
  have hqp : twn J q p := by
    obtain ⟨w1, w2, w3, w4⟩ := hpq
    exact ⟨sp, by rw [← w3, ← w4]; exact w2, w3.symm, w4.symm⟩
  intro s h0 h1
  rw [tb_or, tb_or, h s h0 h1, tb_shl1 (by omega) ⟨h0, h1⟩, tb_shl1 (by omega) ⟨h0, h1⟩]
  constructor
  · rintro (⟨w, v | v | ⟨g, g1, g2, g3⟩⟩ | rfl | rfl)
    · exact ⟨w, Or.inl v⟩
    · exact ⟨w, Or.inr (Or.inl v)⟩
    · exact ⟨w, Or.inr (Or.inr ⟨g, g1, g2.imp (fun u => (hP _ _).mpr (Or.inl u)) (fun u => (hP _ _).mpr (Or.inl u)), g3⟩)⟩
    · exact ⟨⟨hp.2, sp⟩, Or.inr (Or.inr ⟨q, hq, Or.inl ((hP _ _).mpr (Or.inr ⟨rfl, rfl⟩)), hpq⟩)⟩
    · exact ⟨⟨hq.2, hpq.1⟩, Or.inr (Or.inr ⟨p, hp, Or.inr ((hP _ _).mpr (Or.inr ⟨rfl, rfl⟩)), hqp⟩)⟩
  · rintro ⟨w, v | v | ⟨g, g1, g2, g3⟩⟩
    · exact Or.inl ⟨w, Or.inl v⟩
    · exact Or.inl ⟨w, Or.inr (Or.inl v)⟩
    · rcases g2 with g2 | g2
      · rcases (hP _ _).mp g2 with u | u
        · exact Or.inl ⟨w, Or.inr (Or.inr ⟨g, g1, Or.inl u, g3⟩)⟩
        · exact Or.inr (Or.inl u.1)
      · rcases (hP _ _).mp g2 with u | u
        · exact Or.inl ⟨w, Or.inr (Or.inr ⟨g, g1, Or.inr u, g3⟩)⟩
        · exact Or.inr (Or.inr u.2)
theorem bi_zero {P : Prop} (h : bi P = 0) : ¬ P := fun hp => by rw [bi_t hp] at h; omega
theorem bi_one {P : Prop} (h : ¬ bi P = 0) : P := Classical.byContradiction (fun hn => h (bi_f hn))
theorem twn.sym {p q : Int} (h : twn J p q) (sp : J 371 p = p) : twn J q p := by
  obtain ⟨w1, w2, w3, w4⟩ := h
  exact ⟨sp, by rw [← w3, ← w4]; exact w2, w3.symm, w4.symm⟩
theorem knV_in2 (hu : GuM I J T) (hn : J 360 4 ≤ 20) {k s : Int} : -1 ≤ knV J k s ∧ knV J k s < 10 := lsV_in _ _ (fun g g0 g1 hq => partOf_in (by have := hu g g0 (by omega); have := hq.1; omega))
/-- behind laysKnown -/
def LkP (I J I2 : Nat → Int → Int) : Prop := LkT I J (fun x y => y < x) I2
theorem jc_laysKnown (hs : Ss K N R) (ht : Td K N R T) (hg : SgM I J T) (hg0 : GrM I J 333 0) (hg1 : GrM I J 334 1) (hL0 : GrL J 0) (hL1 : GrL J 1) (hu : GuM I J T) : gW G yX0_laysKnown cX0_laysKnown 3 (none) 4 0 0 [vR (some 300)] (K, N, I, R) nx (gI K N R nx (LkP I J)) := by
  have hn332 : N 332 = 20 := hs.n 332 (by decide)
  have hn333 : N 333 = 20 := hs.n 333 (by decide)
  have hn334 : N 334 = 20 := hs.n 334 (by decide)
  have hn348 : N 348 = 20 := hs.n 348 (by decide)
  have hn349 : N 349 = 20 := hs.n 349 (by decide)
  have hn := hg.2.2.2
  refine gW.of (by decide) rfl (Nat.le_of_ble_eq_true rfl) ?_
  refine x_ls (ls2 := [some (vR (some 300)), none, none]) rfl ?_
  refine x_aload_n dX0_laysKnown_0 rfl ?_
  refine x_iconst dX0_laysKnown_1 ?_
  refine g_putI 21 (ci := 1) (kf := 21) rfl (by decide) (by decide) rfl rfl q1329 rfl (hs.k 300 (by decide)) (by decide) (Or.inl rfl) (rr_nar_i _) dX0_laysKnown_2 ?_
  refine x_iconst dX0_laysKnown_5 ?_
  refine x_istore_n dX0_laysKnown_6 (by decide) ?_
  refine x_ls (ls2 := [some (vR (some 300)), some (vI 0), none]) rfl ?_
  refine s_for (W := fun (q : Int) (I1 : Nat → Int → Int) => gw G yX0_laysKnown cX0_laysKnown 3 (none) 4 0 0 (gI K N R nx (LkP I J)) 7 [some (vR (some 300)), some (vI q), none] [] (K, N, I1, R) nx 0 0) (fun q I1 => LkF I I1 ∧ I1 300 21 = 0 ∧ ∀ s, 0 ≤ s → s < q → I1 348 s = -1 ∧ I1 349 s = -1) 0 20 _ (by omega) ⟨LkF.put ⟨fun _ _ _ _ => rfl, fun _ _ => rfl⟩ (Or.inl ⟨rfl, rfl⟩), rr_u2_same .., fun s h0 h1 => by omega⟩ ?_
  rintro q I1 h0 hq ⟨hF, h21, hneg⟩ ih
  refine x_iload_n dX0_laysKnown_7 rfl ?_
  refine x_bipush dX0_laysKnown_8 (by decide) ?_
  refine x_icmp_ge (t := 33) dX0_laysKnown_10 (by decide) (by omega) (fun c_10 => ?_) (fun c_10 => ?_)
  · skip
    refine x_iconst dX0_laysKnown_33 ?_
    refine x_istore_n dX0_laysKnown_34 (by decide) ?_
    clear ih
    have hq20 : q = 20 := by omega
    refine x_ls (ls2 := [some (vR (some 300)), some (vI 0), none]) rfl ?_
    refine s_for (W := fun (q : Int) (I1 : Nat → Int → Int) => gw G yX0_laysKnown cX0_laysKnown 3 (none) 4 0 0 (gI K N R nx (LkP I J)) 35 [some (vR (some 300)), some (vI q), none] [] (K, N, I1, R) nx 0 0) (fun q I1 => LkS I J q q I1) 0 (J 360 4) I1 (by omega) ⟨hF, fun s s0 s1 => ?_, fun s s0 s1 => ?_, fun s s0 s1 => ?_⟩ ?_
    · rw [@if_neg _ (Classical.propDecidable _) (fun w => by have := (hg0 s s0 s1).2; omega)]; exact (hneg s s0 (by omega)).1
    · rw [@if_neg _ (Classical.propDecidable _) (fun w => by have := (hg1 s s0 s1).2; omega)]; exact (hneg s s0 (by omega)).2
    · rw [h21]
      refine ⟨fun w => absurd w (tb_0 s), ?_⟩
      rintro ⟨w, v | v⟩
      · have := (hg0 s s0 w.1).2; omega
      · have := (hg1 s s0 w.1).2; omega
    clear c_10 hneg h21 hF I1 hq20 hq h0 q
    intro q I1 h0 hq hS ih
    have hT0 : I1 T 0 = J 360 4 := (hS.1.hyp ht hg hg0 hg1 hu).1.1
    have halfB : q < J 360 4 → ∀ I1, LkS I J (q + 1) q I1 → gw G yX0_laysKnown cX0_laysKnown 3 (none) 4 0 0 (gI K N R nx (LkP I J)) 99 [some (vR (some 300)), some (vI q), none] [] (K, N, I1, R) nx 0 0 := by
      clear hS hT0 I1
      intro hq4 I1 hS
      obtain ⟨y1, y2, y3, y4⟩ := hS.1.hyp ht hg hg0 hg1 hu
      have hfI : 0 ≤ I1 T 0 ∧ I1 T 0 ≤ 20 := by rw [y1.1]; omega
      have hsq := y1.2.1 q h0 hq4
      have hgq := y3 q h0 hq4
      have hno : ¬ (J 371 q = q ∧ J 383 (20 * 1 + q) = q) → LkS I J (q + 1) (q + 1) I1 := fun w => ⟨hS.1, hS.2.1, hS.2.2.1.no hL1 w, hS.2.2.2.no1 (fun s s0 s1 _ e => absurd (by have := hL1 s s0 s1; rw [e] at this; exact this) w)⟩
      refine x_aload_n dX0_laysKnown_99 rfl ?_
      refine x_iload_n dX0_laysKnown_100 rfl ?_
      refine g_cv1 (ci := 1) (jc_isSign hs ht hfI (by omega) y1.2.2.1) fX0_isSign q1280 rfl (by decide) (hs.k 300 (by decide)) (by decide) (Nat.le_of_ble_eq_true rfl) (by omega) (by omega) dX0_laysKnown_101 (fun v h2 n2 hp => ?_)
      obtain ⟨rfl, rfl, rfl⟩ := hp
      refine x_if_eq_b (t := 152) dX0_laysKnown_104 (by decide) (fun c_104 => ?_) (fun c_104 => ?_)
      · skip
        rw [y1.1] at c_104
        refine x_iinc dX0_laysKnown_152 rfl (by decide) ?_
        refine x_goto (t := 35) dX0_laysKnown_155 (by decide) ?_
        exact ih _ hq4 (hno (fun w => c_104 ⟨by omega, by rw [hsq.1.1]; exact w.1⟩))
      · skip
        have hsn : J 371 q = q := by rw [← hsq.1.1]; exact c_104.2
        rw [hsn] at hgq
        refine x_aload_n dX0_laysKnown_107 rfl ?_
        refine g_getR 10 (r := some 334) (ci := 1) (kf := 10) rfl (by decide) (by decide) rfl rfl q1318 rfl (hs.k 300 (by decide)) (hs.r 10 (by decide)) dX0_laysKnown_108 ?_
        refine x_iload_n dX0_laysKnown_111 rfl ?_
        refine g_iald (hs.k 334 (by decide)) rfl (by omega) dX0_laysKnown_112 ?_
        rw [hgq.1]
        refine x_iload_n dX0_laysKnown_113 rfl ?_
        refine x_icmp_ne (t := 152) dX0_laysKnown_114 (by decide) (by omega) (fun c_114 => ?_) (fun c_114 => ?_)
        · skip
          refine x_iinc dX0_laysKnown_152 rfl (by decide) ?_
          refine x_goto (t := 35) dX0_laysKnown_155 (by decide) ?_
          exact ih _ hq4 (hno (fun w => c_114 w.2))
        · skip
          have hqq : J 383 (20 * 1 + q) = q := by omega
          refine x_aload_n dX0_laysKnown_117 rfl ?_
          refine x_aload_n dX0_laysKnown_118 rfl ?_
          refine g_getR 10 (r := some 334) (ci := 1) (kf := 10) rfl (by decide) (by decide) rfl rfl q1318 rfl (hs.k 300 (by decide)) (hs.r 10 (by decide)) dX0_laysKnown_119 ?_
          refine x_iload_n dX0_laysKnown_122 rfl ?_
          refine x_iconst dX0_laysKnown_123 ?_
          refine x_aload_n dX0_laysKnown_124 rfl ?_
          refine g_getR 20 (r := some 349) (ci := 1) (kf := 20) rfl (by decide) (by decide) rfl rfl q1328 rfl (hs.k 300 (by decide)) (hs.r 20 (by decide)) dX0_laysKnown_125 ?_
          refine g_cv4 (ci := 1) (jc_knows (k := 1) (b := 349) hs ht (Or.inr ⟨rfl, rfl, rfl⟩) y1 y3 y4 ⟨⟨h0, hq4⟩, hqq⟩) fX0_knows q1291 rfl (by decide) (hs.k 300 (by decide)) (by decide) (Nat.le_of_ble_eq_true rfl) (by omega) (by omega) dX0_laysKnown_128 (fun v h2 n2 hp => ?_)
          obtain ⟨rfl, I2, rfl, rfl, k1, k2⟩ := hp
          have hb01 := bi_01 (pp (gsd J 1 q) (fun g => partOf (J 369 (4 + g)) 1) (J 360 4))
          have hF2 := hS.1.kw (b := 349) (Or.inr rfl) k1
          obtain ⟨z1, z2, z3, z4⟩ := hF2.hyp ht hg hg0 hg1 hu
          have eL : LkA J 1 (q + 1) (I2 349) := hS.2.2.1.yes hqq k2
          have e8 : I2 348 = I1 348 := k1 348 (by decide)
          have e0 : I2 300 = I1 300 := k1 300 (by decide)
          refine x_if_eq (t := 152) dX0_laysKnown_131 (by decide) (by omega) (fun c_131 => ?_) (fun c_131 => ?_)
          · skip
            replace c_131 : ¬ ppS J 1 q := bi_zero c_131
            refine x_iinc dX0_laysKnown_152 rfl (by decide) ?_
            refine x_goto (t := 35) dX0_laysKnown_155 (by decide) ?_
            exact ih _ hq4 ⟨hF2, by rw [e8]; exact hS.2.1, eL, by rw [e0]; exact hS.2.2.2.no1 (fun s s0 s1 _ e => by rw [(knV_same (k := 1) (s := s) (t := q) (by rw [e, hqq])).2]; exact c_131)⟩
          · skip
            replace c_131 : ppS J 1 q := bi_one c_131
            refine x_aload_n dX0_laysKnown_134 rfl ?_
            refine x_dup dX0_laysKnown_135 rfl ?_
            refine g_getI 21 (ci := 1) (kf := 21) rfl (by decide) (by decide) rfl rfl q1329 rfl (hs.k 300 (by decide)) dX0_laysKnown_136 ?_
            refine x_aload_n dX0_laysKnown_139 rfl ?_
            refine x_aload_n dX0_laysKnown_140 rfl ?_
            refine g_getR 10 (r := some 334) (ci := 1) (kf := 10) rfl (by decide) (by decide) rfl rfl q1318 rfl (hs.k 300 (by decide)) (hs.r 10 (by decide)) dX0_laysKnown_141 ?_
            refine x_iload_n dX0_laysKnown_144 rfl ?_
            refine g_cv2 (ci := 1) (jc_signsBy (k := 1) hs ht (Or.inr rfl) z1 z3 (by omega)) fX0_signsBy q1295 rfl (by decide) (hs.k 300 (by decide)) (by decide) (Nat.le_of_ble_eq_true rfl) (by omega) (by omega) dX0_laysKnown_145 (fun v h2 n2 hp => ?_)
            obtain ⟨z, rfl, rfl, rfl, hz⟩ := hp
            refine x_ior dX0_laysKnown_148 ?_
            refine g_putI 21 (ci := 1) (kf := 21) rfl (by decide) (by decide) rfl rfl q1329 rfl (hs.k 300 (by decide)) (by decide) (Or.inl rfl) (rr_nar_i _) dX0_laysKnown_149 ?_
            refine x_iinc dX0_laysKnown_152 rfl (by decide) ?_
            refine x_goto (t := 35) dX0_laysKnown_155 (by decide) ?_
            exact ih _ hq4 ⟨hF2.put (Or.inl ⟨rfl, rfl⟩), by rw [rr_u2_of (by decide), e8]; exact hS.2.1, by rw [rr_u2_of (by decide)]; exact eL, by rw [rr_u2_same, e0]; exact hS.2.2.2.yes1 hqq c_131 hn.1 hz⟩
    obtain ⟨y1, y2, y3, y4⟩ := hS.1.hyp ht hg hg0 hg1 hu
    have hfI : 0 ≤ I1 T 0 ∧ I1 T 0 ≤ 20 := by rw [y1.1]; omega
    have hsq' := y1.2.1 q h0
    have hgq' := y2 q h0
    have hno : ¬ (J 371 q = q ∧ J 383 (20 * 0 + q) = q) → LkS I J (q + 1) q I1 := fun w => ⟨hS.1, hS.2.1.no hL0 w, hS.2.2.1, hS.2.2.2.no0 (fun s s0 s1 _ e => absurd (by have := hL0 s s0 s1; rw [e] at this; exact this) w)⟩
    refine x_iload_n dX0_laysKnown_35 rfl ?_
    refine x_aload_n dX0_laysKnown_36 rfl ?_
    refine g_getR 2 (r := some T) (ci := 1) (kf := 2) rfl (by decide) (by decide) rfl rfl q1307 rfl (hs.k 300 (by decide)) (ht.t) dX0_laysKnown_37 ?_
    refine g_getIN 0 (ci := 3) (kf := 0) rfl (by decide) (by decide) rfl rfl q210 rfl (ht.k) dX0_laysKnown_40 ?_
    rw [hT0]
    refine x_icmp_ge (t := 158) dX0_laysKnown_43 (by decide) (by omega) (fun c_43 => ?_) (fun c_43 => ?_)
    · skip
      refine x_iconst dX0_laysKnown_158 ?_
      refine x_istore_n dX0_laysKnown_159 (by decide) ?_
      have hqe : q = J 360 4 := by omega
      have hSE : LkT I J (fun x y => y < x ∧ x < 0) I1 := by
        refine ⟨hS.1, hqe ▸ hS.2.1, hqe ▸ hS.2.2.1, fun s s0 s1 => ?_⟩
        rw [hS.2.2.2 s s0 s1]
        constructor
        · rintro ⟨w, v | v⟩
          · exact ⟨w, Or.inl v.2⟩
          · exact ⟨w, Or.inr (Or.inl v.2)⟩
        · rintro ⟨w, v | v | ⟨g, g1, g2, -⟩⟩
          · exact ⟨w, Or.inl ⟨by have := (hg0 s s0 w.1).2; omega, v⟩⟩
          · exact ⟨w, Or.inr ⟨by have := (hg1 s s0 w.1).2; omega, v⟩⟩
          · omega
      clear halfB hno hsq' hgq' hfI y1 y2 y3 y4 hT0 ih hS c_43 hqe h0 hq
      refine x_ls (ls2 := [some (vR (some 300)), some (vI 0), none]) rfl ?_
      refine s_for (W := fun (q : Int) (z : (Nat → Int → Int) × Option rr_V) => gw G yX0_laysKnown cX0_laysKnown 3 (none) 4 0 0 (gI K N R nx (LkP I J)) 160 [some (vR (some 300)), some (vI q), z.2] [] (K, N, z.1, R) nx 0 0) (fun q z => LkT I J (fun x y => y < x ∧ x < q) z.1) 0 (J 360 4) (I1, none) (by omega) hSE ?_
      clear hSE I1 q
      rintro q ⟨I1, z⟩ h0 hq hS ih
      simp only at hS ih ⊢
      have hT0 : I1 T 0 = J 360 4 := (hS.1.hyp ht hg hg0 hg1 hu).1.1
      refine x_iload_n dX0_laysKnown_160 rfl ?_
      refine x_aload_n dX0_laysKnown_161 rfl ?_
      refine g_getR 2 (r := some T) (ci := 1) (kf := 2) rfl (by decide) (by decide) rfl rfl q1307 rfl (hs.k 300 (by decide)) (ht.t) dX0_laysKnown_162 ?_
      refine g_getIN 0 (ci := 3) (kf := 0) rfl (by decide) (by decide) rfl rfl q210 rfl (ht.k) dX0_laysKnown_165 ?_
      rw [hT0]
      refine x_icmp_ge (t := 260) dX0_laysKnown_168 (by decide) (by omega) (fun c_168 => ?_) (fun c_168 => ?_)
      · skip
        refine gw_vret rfl dX0_laysKnown_260 (by omega) (by omega) ?_
        exact ⟨rfl, I1, rfl, hS.1, hS.2.1, hS.2.2.1, hS.2.2.2.no (fun s g s0 s1 g0 g1 _ _ => by omega)⟩
      · skip
        refine x_iconst dX0_laysKnown_171 ?_
        refine x_istore_n dX0_laysKnown_172 (by decide) ?_
        have hq4 : q < J 360 4 := by omega
        refine x_ls (ls2 := [some (vR (some 300)), some (vI q), some (vI 0)]) rfl ?_
        refine s_for (W := fun (p : Int) (I1 : Nat → Int → Int) => gw G yX0_laysKnown cX0_laysKnown 3 (none) 4 0 0 (gI K N R nx (LkP I J)) 173 [some (vR (some 300)), some (vI q), some (vI p)] [] (K, N, I1, R) nx 0 0) (fun p I1 => LkT I J (fun x y => y < x ∧ (x < q ∨ x = q ∧ y < p)) I1) 0 q I1 (by omega) ⟨hS.1, hS.2.1, hS.2.2.1, hS.2.2.2.no (fun s g s0 s1 g0 g1 _ _ => by omega)⟩ ?_
        clear hS hT0 c_168 I1
        intro p I1 hp0 hpq hS ih2
        obtain ⟨y1, y2, y3, y4⟩ := hS.1.hyp ht hg hg0 hg1 hu
        have hfI : 0 ≤ I1 T 0 ∧ I1 T 0 ≤ 20 := by rw [y1.1]; omega
        have hsq := y1.2.1 q h0 hq4
        have hsp := fun hpq : p < q => y1.2.1 p hp0 (by omega)
        have hA0 : ∀ s, 0 ≤ s → s < J 360 4 → J 371 s = s → I1 348 s = knV J 0 s := fun s s0 s1 hs => by rw [hS.2.1 s s0 s1, @if_pos _ (Classical.propDecidable _) ⟨hs, by have := (hg0 s s0 s1).2; omega⟩]
        have hA1 : ∀ s, 0 ≤ s → s < J 360 4 → J 371 s = s → I1 349 s = knV J 1 s := fun s s0 s1 hs => by rw [hS.2.2.1 s s0 s1, @if_pos _ (Classical.propDecidable _) ⟨hs, by have := (hg1 s s0 s1).2; omega⟩]
        have k0 := knV_in2 hu hn.1 (k := 0) (s := q)
        have k1 := knV_in2 hu hn.1 (k := 1) (s := q)
        have k2 := knV_in2 hu hn.1 (k := 0) (s := p)
        have k3 := knV_in2 hu hn.1 (k := 1) (s := p)
        have hno : p < q → (J 371 q = q → twn J q p → False) → LkT I J (fun x y => y < x ∧ (x < q ∨ x = q ∧ y < p + 1)) I1 := fun hlt w => ⟨hS.1, hS.2.1, hS.2.2.1, hS.2.2.2.no (fun s g s0 s1 g0 g1 ss hw => by
          have e1 : ¬ (s = q ∧ g = p) := fun e => w (by rw [← e.1]; exact ss) (by rw [← e.1, ← e.2]; exact hw)
          have e2 : ¬ (g = q ∧ s = p) := fun e => w (by rw [← e.1]; exact hw.1) (by rw [← e.1, ← e.2]; exact hw.sym ss)
          omega)⟩
        refine x_iload_n dX0_laysKnown_173 rfl ?_
        refine x_iload_n dX0_laysKnown_174 rfl ?_
        refine x_icmp_ge (t := 254) dX0_laysKnown_175 (by decide) (by omega) (fun c_175 => ?_) (fun c_175 => ?_)
        · skip
          refine x_iinc dX0_laysKnown_254 rfl (by decide) ?_
          refine x_goto (t := 160) dX0_laysKnown_257 (by decide) ?_
          exact ih (_, _) hq4 ⟨hS.1, hS.2.1, hS.2.2.1, hS.2.2.2.no (fun s g s0 s1 g0 g1 _ _ => by omega)⟩
        · skip
          have hlt : p < q := by omega
          have hsp := hsp hlt
          refine x_aload_n dX0_laysKnown_178 rfl ?_
          refine x_iload_n dX0_laysKnown_179 rfl ?_
          refine g_cv1 (ci := 1) (jc_isSign hs ht hfI (by omega) y1.2.2.1) fX0_isSign q1280 rfl (by decide) (hs.k 300 (by decide)) (by decide) (Nat.le_of_ble_eq_true rfl) (by omega) (by omega) dX0_laysKnown_180 (fun v h2 n2 hp => ?_)
          obtain ⟨rfl, rfl, rfl⟩ := hp
          refine x_if_eq_b (t := 248) dX0_laysKnown_183 (by decide) (fun c_183 => ?_) (fun c_183 => ?_)
          · skip
            rw [y1.1] at c_183
            refine x_iinc dX0_laysKnown_248 rfl (by decide) ?_
            refine x_goto (t := 173) dX0_laysKnown_251 (by decide) ?_
            exact ih2 _ hlt (hno hlt (fun w _ => c_183 ⟨by omega, by rw [hsq.1.1]; exact w⟩))
          · skip
            have sq : J 371 q = q := by rw [← hsq.1.1]; exact c_183.2
            have eq0 := hA0 q h0 hq4 sq
            have eq1 := hA1 q h0 hq4 sq
            refine x_aload_n dX0_laysKnown_186 rfl ?_
            refine x_iload_n dX0_laysKnown_187 rfl ?_
            refine g_cv1 (ci := 1) (jc_isSign hs ht hfI (by omega) y1.2.2.1) fX0_isSign q1280 rfl (by decide) (hs.k 300 (by decide)) (by decide) (Nat.le_of_ble_eq_true rfl) (by omega) (by omega) dX0_laysKnown_188 (fun v h2 n2 hp => ?_)
            obtain ⟨rfl, rfl, rfl⟩ := hp
            refine x_if_eq_b (t := 248) dX0_laysKnown_191 (by decide) (fun c_191 => ?_) (fun c_191 => ?_)
            · skip
              rw [y1.1] at c_191
              refine x_iinc dX0_laysKnown_248 rfl (by decide) ?_
              refine x_goto (t := 173) dX0_laysKnown_251 (by decide) ?_
              exact ih2 _ hlt (hno hlt (fun _ w => c_191 ⟨by omega, by rw [hsp.1.1]; exact w.1⟩))
            · skip
              have sp : J 371 p = p := by rw [← hsp.1.1]; exact c_191.2
              have ep0 := hA0 p hp0 (by omega) sp
              have ep1 := hA1 p hp0 (by omega) sp
              refine x_aload_n dX0_laysKnown_194 rfl ?_
              refine x_iload_n dX0_laysKnown_195 rfl ?_
              refine g_cv1 (ci := 1) (jc_isKnown hs (by omega) (by omega)) fX0_isKnown q1299 rfl (by decide) (hs.k 300 (by decide)) (by decide) (Nat.le_of_ble_eq_true rfl) (by omega) (by omega) dX0_laysKnown_196 (fun v h2 n2 hp => ?_)
              obtain ⟨rfl, rfl, rfl⟩ := hp
              refine x_if_eq_b (t := 248) dX0_laysKnown_199 (by decide) (fun c_199 => ?_) (fun c_199 => ?_)
              · skip
                rw [eq0, eq1] at c_199
                refine x_iinc dX0_laysKnown_248 rfl (by decide) ?_
                refine x_goto (t := 173) dX0_laysKnown_251 (by decide) ?_
                exact ih2 _ hlt (hno hlt (fun _ w => c_199 w.2.1))
              · skip
                rw [eq0, eq1] at c_199
                refine x_aload_n dX0_laysKnown_202 rfl ?_
                refine g_getR 19 (r := some 348) (ci := 1) (kf := 19) rfl (by decide) (by decide) rfl rfl q1327 rfl (hs.k 300 (by decide)) (hs.r 19 (by decide)) dX0_laysKnown_203 ?_
                refine x_iload_n dX0_laysKnown_206 rfl ?_
                refine g_iald (hs.k 348 (by decide)) rfl (by omega) dX0_laysKnown_207 ?_
                refine x_aload_n dX0_laysKnown_208 rfl ?_
                refine g_getR 19 (r := some 348) (ci := 1) (kf := 19) rfl (by decide) (by decide) rfl rfl q1327 rfl (hs.k 300 (by decide)) (hs.r 19 (by decide)) dX0_laysKnown_209 ?_
                refine x_iload_n dX0_laysKnown_212 rfl ?_
                refine g_iald (hs.k 348 (by decide)) rfl (by omega) dX0_laysKnown_213 ?_
                rw [eq0, ep0]
                refine x_icmp_ne (t := 248) dX0_laysKnown_214 (by decide) (by omega) (fun c_214 => ?_) (fun c_214 => ?_)
                · skip
                  refine x_iinc dX0_laysKnown_248 rfl (by decide) ?_
                  refine x_goto (t := 173) dX0_laysKnown_251 (by decide) ?_
                  exact ih2 _ hlt (hno hlt (fun _ w => c_214 w.2.2.1))
                · skip
                  refine x_aload_n dX0_laysKnown_217 rfl ?_
                  refine g_getR 20 (r := some 349) (ci := 1) (kf := 20) rfl (by decide) (by decide) rfl rfl q1328 rfl (hs.k 300 (by decide)) (hs.r 20 (by decide)) dX0_laysKnown_218 ?_
                  refine x_iload_n dX0_laysKnown_221 rfl ?_
                  refine g_iald (hs.k 349 (by decide)) rfl (by omega) dX0_laysKnown_222 ?_
                  refine x_aload_n dX0_laysKnown_223 rfl ?_
                  refine g_getR 20 (r := some 349) (ci := 1) (kf := 20) rfl (by decide) (by decide) rfl rfl q1328 rfl (hs.k 300 (by decide)) (hs.r 20 (by decide)) dX0_laysKnown_224 ?_
                  refine x_iload_n dX0_laysKnown_227 rfl ?_
                  refine g_iald (hs.k 349 (by decide)) rfl (by omega) dX0_laysKnown_228 ?_
                  rw [eq1, ep1]
                  refine x_icmp_ne (t := 248) dX0_laysKnown_229 (by decide) (by omega) (fun c_229 => ?_) (fun c_229 => ?_)
                  · skip
                    refine x_iinc dX0_laysKnown_248 rfl (by decide) ?_
                    refine x_goto (t := 173) dX0_laysKnown_251 (by decide) ?_
                    exact ih2 _ hlt (hno hlt (fun _ w => c_229 w.2.2.2))
                  · skip
                    refine x_aload_n dX0_laysKnown_232 rfl ?_
                    refine x_dup dX0_laysKnown_233 rfl ?_
                    refine g_getI 21 (ci := 1) (kf := 21) rfl (by decide) (by decide) rfl rfl q1329 rfl (hs.k 300 (by decide)) dX0_laysKnown_234 ?_
                    refine x_iconst dX0_laysKnown_237 ?_
                    refine x_iload_n dX0_laysKnown_238 rfl ?_
                    refine x_ishl dX0_laysKnown_239 ?_
                    refine x_iconst dX0_laysKnown_240 ?_
                    refine x_iload_n dX0_laysKnown_241 rfl ?_
                    refine x_ishl dX0_laysKnown_242 ?_
                    refine x_ior dX0_laysKnown_243 ?_
                    refine x_ior dX0_laysKnown_244 ?_
                    refine g_putI 21 (ci := 1) (kf := 21) rfl (by decide) (by decide) rfl rfl q1329 rfl (hs.k 300 (by decide)) (by decide) (Or.inl rfl) (rr_nar_i _) dX0_laysKnown_245 ?_
                    refine x_iinc dX0_laysKnown_248 rfl (by decide) ?_
                    refine x_goto (t := 173) dX0_laysKnown_251 (by decide) ?_
                    exact ih2 _ hlt ⟨hS.1.put (Or.inl ⟨rfl, rfl⟩), by rw [rr_u2_of (by decide)]; exact hS.2.1, by rw [rr_u2_of (by decide)]; exact hS.2.2.1, by rw [rr_u2_same]; exact hS.2.2.2.yes hn.1 ⟨h0, hq4⟩ ⟨hp0, by omega⟩ sq ⟨sp, c_199, by omega, by omega⟩ (fun x y => by omega)⟩
    · skip
      have hq4 : q < J 360 4 := by omega
      have hsq := hsq' hq4
      have hgq := hgq' hq4
      refine x_aload_n dX0_laysKnown_46 rfl ?_
      refine x_iload_n dX0_laysKnown_47 rfl ?_
      refine g_cv1 (ci := 1) (jc_isSign hs ht hfI (by omega) y1.2.2.1) fX0_isSign q1280 rfl (by decide) (hs.k 300 (by decide)) (by decide) (Nat.le_of_ble_eq_true rfl) (by omega) (by omega) dX0_laysKnown_48 (fun v h2 n2 hp => ?_)
      obtain ⟨rfl, rfl, rfl⟩ := hp
      refine x_if_eq_b (t := 99) dX0_laysKnown_51 (by decide) (fun c_51 => ?_) (fun c_51 => ?_)
      · skip
        rw [y1.1] at c_51
        exact halfB hq4 _ (hno (fun w => c_51 ⟨by omega, by rw [hsq.1.1]; exact w.1⟩))
      · skip
        have hsn : J 371 q = q := by rw [← hsq.1.1]; exact c_51.2
        rw [hsn] at hgq
        refine x_aload_n dX0_laysKnown_54 rfl ?_
        refine g_getR 9 (r := some 333) (ci := 1) (kf := 9) rfl (by decide) (by decide) rfl rfl q1317 rfl (hs.k 300 (by decide)) (hs.r 9 (by decide)) dX0_laysKnown_55 ?_
        refine x_iload_n dX0_laysKnown_58 rfl ?_
        refine g_iald (hs.k 333 (by decide)) rfl (by omega) dX0_laysKnown_59 ?_
        rw [hgq.1]
        refine x_iload_n dX0_laysKnown_60 rfl ?_
        refine x_icmp_ne (t := 99) dX0_laysKnown_61 (by decide) (by omega) (fun c_61 => ?_) (fun c_61 => ?_)
        · skip
          exact halfB hq4 _ (hno (fun w => c_61 w.2))
        · skip
          have hqq : J 383 (20 * 0 + q) = q := by omega
          refine x_aload_n dX0_laysKnown_64 rfl ?_
          refine x_aload_n dX0_laysKnown_65 rfl ?_
          refine g_getR 9 (r := some 333) (ci := 1) (kf := 9) rfl (by decide) (by decide) rfl rfl q1317 rfl (hs.k 300 (by decide)) (hs.r 9 (by decide)) dX0_laysKnown_66 ?_
          refine x_iload_n dX0_laysKnown_69 rfl ?_
          refine x_iconst dX0_laysKnown_70 ?_
          refine x_aload_n dX0_laysKnown_71 rfl ?_
          refine g_getR 19 (r := some 348) (ci := 1) (kf := 19) rfl (by decide) (by decide) rfl rfl q1327 rfl (hs.k 300 (by decide)) (hs.r 19 (by decide)) dX0_laysKnown_72 ?_
          refine g_cv4 (ci := 1) (jc_knows (k := 0) (b := 348) hs ht (Or.inl ⟨rfl, rfl, rfl⟩) y1 y2 y4 ⟨⟨h0, hq4⟩, hqq⟩) fX0_knows q1291 rfl (by decide) (hs.k 300 (by decide)) (by decide) (Nat.le_of_ble_eq_true rfl) (by omega) (by omega) dX0_laysKnown_75 (fun v h2 n2 hp => ?_)
          obtain ⟨rfl, I2, rfl, rfl, k1, k2⟩ := hp
          have hb01 := bi_01 (pp (gsd J 0 q) (fun g => partOf (J 369 (4 + g)) 0) (J 360 4))
          have hF2 := hS.1.kw (b := 348) (Or.inl rfl) k1
          obtain ⟨z1, z2, z3, z4⟩ := hF2.hyp ht hg hg0 hg1 hu
          have eL : LkA J 0 (q + 1) (I2 348) := hS.2.1.yes hqq k2
          have e8 : I2 349 = I1 349 := k1 349 (by decide)
          have e0 : I2 300 = I1 300 := k1 300 (by decide)
          refine x_if_eq (t := 99) dX0_laysKnown_78 (by decide) (by omega) (fun c_78 => ?_) (fun c_78 => ?_)
          · skip
            replace c_78 : ¬ ppS J 0 q := bi_zero c_78
            exact halfB hq4 _ ⟨hF2, eL, by rw [e8]; exact hS.2.2.1, by rw [e0]; exact hS.2.2.2.no0 (fun s s0 s1 _ e => by rw [(knV_same (k := 0) (s := s) (t := q) (by rw [e, hqq])).2]; exact c_78)⟩
          · skip
            replace c_78 : ppS J 0 q := bi_one c_78
            refine x_aload_n dX0_laysKnown_81 rfl ?_
            refine x_dup dX0_laysKnown_82 rfl ?_
            refine g_getI 21 (ci := 1) (kf := 21) rfl (by decide) (by decide) rfl rfl q1329 rfl (hs.k 300 (by decide)) dX0_laysKnown_83 ?_
            refine x_aload_n dX0_laysKnown_86 rfl ?_
            refine x_aload_n dX0_laysKnown_87 rfl ?_
            refine g_getR 9 (r := some 333) (ci := 1) (kf := 9) rfl (by decide) (by decide) rfl rfl q1317 rfl (hs.k 300 (by decide)) (hs.r 9 (by decide)) dX0_laysKnown_88 ?_
            refine x_iload_n dX0_laysKnown_91 rfl ?_
            refine g_cv2 (ci := 1) (jc_signsBy (k := 0) hs ht (Or.inl rfl) z1 z2 (by omega)) fX0_signsBy q1295 rfl (by decide) (hs.k 300 (by decide)) (by decide) (Nat.le_of_ble_eq_true rfl) (by omega) (by omega) dX0_laysKnown_92 (fun v h2 n2 hp => ?_)
            obtain ⟨z, rfl, rfl, rfl, hz⟩ := hp
            refine x_ior dX0_laysKnown_95 ?_
            refine g_putI 21 (ci := 1) (kf := 21) rfl (by decide) (by decide) rfl rfl q1329 rfl (hs.k 300 (by decide)) (by decide) (Or.inl rfl) (rr_nar_i _) dX0_laysKnown_96 ?_
            exact halfB hq4 _ ⟨hF2.put (Or.inl ⟨rfl, rfl⟩), by rw [rr_u2_of (by decide)]; exact eL, by rw [rr_u2_of (by decide), e8]; exact hS.2.2.1, by rw [rr_u2_same, e0]; exact hS.2.2.2.yes0 hqq c_78 hn.1 hz⟩
  · skip
    refine x_aload_n dX0_laysKnown_13 rfl ?_
    refine g_getR 19 (r := some 348) (ci := 1) (kf := 19) rfl (by decide) (by decide) rfl rfl q1327 rfl (hs.k 300 (by decide)) (hs.r 19 (by decide)) dX0_laysKnown_14 ?_
    refine x_iload_n dX0_laysKnown_17 rfl ?_
    refine x_iconst dX0_laysKnown_18 ?_
    refine g_iast (hs.k 348 (by decide)) (by decide) rfl (by omega) dX0_laysKnown_19 ?_
    refine x_aload_n dX0_laysKnown_20 rfl ?_
    refine g_getR 20 (r := some 349) (ci := 1) (kf := 20) rfl (by decide) (by decide) rfl rfl q1328 rfl (hs.k 300 (by decide)) (hs.r 20 (by decide)) dX0_laysKnown_21 ?_
    refine x_iload_n dX0_laysKnown_24 rfl ?_
    refine x_iconst dX0_laysKnown_25 ?_
    refine g_iast (hs.k 349 (by decide)) (by decide) rfl (by omega) dX0_laysKnown_26 ?_
    refine x_iinc dX0_laysKnown_27 rfl (by decide) ?_
    refine x_goto (t := 7) dX0_laysKnown_30 (by decide) ?_
    refine ih _ (by omega) ⟨(hF.put (Or.inr (Or.inl rfl))).put (Or.inr (Or.inr rfl)), ?_, fun s s0 s1 => ?_⟩
    · rw [rr_u2_of (by decide), rr_u2_of (by decide)]; exact h21
    · rw [rr_u2_at, rr_u2_of (x := 348) (a := 349) (by decide), rr_u2_of (x := 349) (a := 348) (by decide), rr_u2_at]
      by_cases e : s = q
      · simp [e]
      · simp only [e, if_false]; exact hneg s s0 (by omega)
end KN
