/-! SYSTEM 13: laysGrid, the walk -/
set_option maxRecDepth 100000
section WD
variable {G : rr_G} {nx : Nat} {K N : Nat → Nat} {I I1 I2 J : Nat → Int → Int} {R : Nat → Int → Option Nat} {T W0 x y : Nat} {p q : List Int} {L : List (List Int × Int)}
theorem jc_laysGrid (hs : Ss K N R) (ht : Td K N R T) (hg : SgM I J T) (hw : Wds K N I R W0 L) (hc : CluR K I R J T) (hco : ClOK J) : gW G yX0_laysGrid cX0_laysGrid 3 (none) 23 0 0 [vR (some 300)] (K, N, I, R) nx (gI K N R nx (GdP J L I)) := by
  have hn332 : N 332 = 20 := hs.n 332 (by decide)
  have hn333 : N 333 = 20 := hs.n 333 (by decide)
  have hn334 : N 334 = 20 := hs.n 334 (by decide)
  have hn346 : N 346 = 20 := hs.n 346 (by decide)
  have hn347 : N 347 = 20 := hs.n 347 (by decide)
  have hnT5 : N (T + 5) = 12 := ht.n 5 (by decide)
  have hK6 := hs.k 346 (k := 64) (by decide)
  have hK7 := hs.k 347 (k := 64) (by decide)
  have hn := hg.2.2.2
  obtain ⟨⟨hW0, hKW, hNW, hL⟩, hwe⟩ := hw
  have hT6 : T ≠ 346 := by have := ht.ne 0 (by decide) (x := 346) (by decide); omega
  have hT7 : T ≠ 347 := by have := ht.ne 0 (by decide) (x := 347) (by decide); omega
  have hfr : ∀ I1, Gf I I1 → (∀ z, K z ≠ 64 → I1 z = I z) ∧ I1 T = I T ∧ I1 332 = I 332 := fun I1 h => ⟨fun z hz => h z (fun e => hz (by rw [e]; exact hK6)) (fun e => hz (by rw [e]; exact hK7)), h T hT6 hT7, h 332 (by decide) (by decide)⟩
  refine gW.of (by decide) rfl (Nat.le_of_ble_eq_true rfl) ?_
  refine x_ls (ls2 := [some (vR (some 300)), none, none]) rfl ?_
  refine x_iconst dX0_laysGrid_0 ?_
  refine x_istore_n dX0_laysGrid_1 (by decide) ?_
  refine x_ls (ls2 := [some (vR (some 300)), some (vI 0), none]) rfl ?_
  refine s_for (W := fun (i : Int) (I1 : Nat → Int → Int) => gw G yX0_laysGrid cX0_laysGrid 3 (none) 23 0 0 (gI K N R nx (GdP J L I)) 2 [some (vR (some 300)), some (vI i), none] [] (K, N, I1, R) nx 0 0) (fun i I1 => Gf I I1 ∧ ∀ s, 0 ≤ s → s < i → I1 346 s = 0 ∧ I1 347 s = 0) 0 20 I (by omega) ⟨fun _ _ _ => rfl, fun s s0 s1 => by omega⟩ ?_
  rintro i I1 h0 hi ⟨hF, hz⟩ ih
  refine x_iload_n dX0_laysGrid_2 rfl ?_
  refine x_bipush dX0_laysGrid_3 (by decide) ?_
  refine x_icmp_ge (t := 28) dX0_laysGrid_5 (by decide) (by omega) (fun c_5 => ?_) (fun c_5 => ?_)
  · skip
    refine x_iconst dX0_laysGrid_28 ?_
    refine x_istore_n dX0_laysGrid_29 (by decide) ?_
    have hie : i = 20 := by omega
    subst hie
    have hB : Gb (clLt L 0 0) I1 := fun u v u0 u1 v0 v1 => by
      rw [(hz u u0 u1).1, (hz u u0 u1).2]
      have hno : ∀ k, ¬ clLt L 0 0 k u v := fun k ⟨i, j, p, q, h1, h2, _⟩ => by omega
      exact ⟨⟨fun w => absurd w (tb_0 v), fun w => absurd w (hno 0)⟩, ⟨fun w => absurd w (tb_0 v), fun w => absurd w (hno 1)⟩⟩
    clear ih hz c_5
    refine x_ls (ls2 := [some (vR (some 300)), some (vI 0), none]) rfl ?_
    refine s_for (W := fun (i : Int) (z : (Nat → Int → Int) × Option rr_V) => gw G yX0_laysGrid cX0_laysGrid 3 (none) 23 0 0 (gI K N R nx (GdP J L I)) 30 [some (vR (some 300)), some (vI i), z.2] [] (K, N, z.1, R) nx 0 0) (fun i z => Gf I z.1 ∧ Gb (clLt L i.toNat 0) z.1) 0 (L.length : Int) (I1, none) (by omega) ⟨hF, hB⟩ ?_
    clear hB hF h0 hi I1
    rintro i ⟨I1, z⟩ h0 hi ⟨hF, hB⟩ ih
    simp only at hF hB ih ⊢
    refine x_iload_n dX0_laysGrid_30 rfl ?_
    refine x_aload_n dX0_laysGrid_31 rfl ?_
    refine g_getR 15 (r := some W0) (ci := 1) (kf := 15) rfl (by decide) (by decide) rfl rfl q1323 rfl (hs.k 300 (by decide)) (hW0) dX0_laysGrid_32 ?_
    refine g_alen (t := 6) rfl (by first | assumption | grind) (rfl) dX0_laysGrid_35 ?_
    refine x_icmp_ge (t := 80) dX0_laysGrid_36 (by decide) (by omega) (fun c_36 => ?_) (fun c_36 => ?_)
    · skip
      refine x_iconst dX0_laysGrid_80 ?_
      refine x_istore_n dX0_laysGrid_81 (by decide) ?_
      have hil : i = L.length := by omega
      have hB0 : Gb (fun k u v => clL L k u v ∨ clT J 0 k u v) I1 := hB.iff (fun k u v _ => by
        constructor
        · rintro ⟨a, b, p, q, h1, h2, h3⟩
          exact Or.inl ⟨a, b, p, q, h1, h3⟩
        · rintro (⟨a, b, p, q, h1, h3, h4⟩ | ⟨m, h1, -⟩)
          · have := (List.getElem?_eq_some_iff.mp h3).1
            exact ⟨a, b, p, q, h1, by omega, h3, h4⟩
          · omega)
      clear ih hB c_36 h0 hi hil
      refine x_ls (ls2 := [some (vR (some 300)), some (vI 0), z]) rfl ?_
      refine s_for (W := fun (m : Int) (I1 : Nat → Int → Int) => gw G yX0_laysGrid cX0_laysGrid 3 (none) 23 0 0 (gI K N R nx (GdP J L I)) 82 [some (vR (some 300)), some (vI m), z] [] (K, N, I1, R) nx 0 0) (fun m I1 => Gf I I1 ∧ Gb (fun k u v => clL L k u v ∨ clT J m k u v) I1) 0 (J 369 3) I1 (by have := hco.1; omega) ⟨hF, hB0⟩ ?_
      clear hB0 hF I1
      rintro m I1 m0 hm ⟨hF, hB⟩ ih
      obtain ⟨hI, hIT, hI2⟩ := hfr I1 hF
      have hT2 : I1 T 2 = J 369 3 := by rw [hIT]; exact hc.1
      have hT0 : I1 T 0 = J 360 4 := by rw [hIT]; exact hg.1
      have h12 := hco.1
      refine x_iload_n dX0_laysGrid_82 rfl ?_
      refine x_aload_n dX0_laysGrid_83 rfl ?_
      refine g_getR 2 (r := some T) (ci := 1) (kf := 2) rfl (by decide) (by decide) rfl rfl q1307 rfl (hs.k 300 (by decide)) (ht.t) dX0_laysGrid_84 ?_
      refine g_getIN 2 (ci := 3) (kf := 2) rfl (by decide) (by decide) rfl rfl q212 rfl (ht.k) dX0_laysGrid_87 ?_
      rw [hT2]
      refine x_icmp_ge (t := 162) dX0_laysGrid_90 (by decide) (by omega) (fun c_90 => ?_) (fun c_90 => ?_)
      · skip
        have hme : m = J 369 3 := by omega
        subst hme
        refine x_aload_n dX0_laysGrid_162 rfl ?_
        refine x_aload_n dX0_laysGrid_163 rfl ?_
        refine g_getR 17 (r := some 346) (ci := 1) (kf := 17) rfl (by decide) (by decide) rfl rfl q1325 rfl (hs.k 300 (by decide)) (hs.r 17 (by decide)) dX0_laysGrid_164 ?_
        refine x_aload_n dX0_laysGrid_167 rfl ?_
        refine g_getR 9 (r := some 333) (ci := 1) (kf := 9) rfl (by decide) (by decide) rfl rfl q1317 rfl (hs.k 300 (by decide)) (hs.r 9 (by decide)) dX0_laysGrid_168 ?_
        refine g_cw2 (ci := 1) (jc_classes (r := CL J L 0) hs ht (by rw [hT0]; omega) ⟨hK6, hn346⟩ ⟨hs.k 333 (by decide), hn333, by decide⟩ (by decide) (fun x y x0 x1 y0 y1 => (hB x y x0 (by omega) y0 (by omega)).1) (fun x y _ _ _ _ w => w.sym)) fX0_classes q1272 rfl (by decide) (hs.k 300 (by decide)) (by decide) (Nat.le_of_ble_eq_true rfl) (by omega) (by omega) dX0_laysGrid_171 (fun h2 n2 hp => ?_)
        obtain ⟨rfl, I2, rfl, d1, d2⟩ := hp
        have eT2 : I2 T = I1 T := d1 T (by have := ht.ne 0 (by decide) (x := 333) (by decide); omega)
        have hB2 : Gb (CL J L) I2 := fun u v u0 u1 v0 v1 => by rw [d1 346 (by decide), d1 347 (by decide)]; exact hB u v u0 u1 v0 v1
        refine x_aload_n dX0_laysGrid_174 rfl ?_
        refine x_aload_n dX0_laysGrid_175 rfl ?_
        refine g_getR 18 (r := some 347) (ci := 1) (kf := 18) rfl (by decide) (by decide) rfl rfl q1326 rfl (hs.k 300 (by decide)) (hs.r 18 (by decide)) dX0_laysGrid_176 ?_
        refine x_aload_n dX0_laysGrid_179 rfl ?_
        refine g_getR 10 (r := some 334) (ci := 1) (kf := 10) rfl (by decide) (by decide) rfl rfl q1318 rfl (hs.k 300 (by decide)) (hs.r 10 (by decide)) dX0_laysGrid_180 ?_
        refine g_cw2 (ci := 1) (jc_classes (r := CL J L 1) hs ht (by rw [eT2, hT0]; omega) ⟨hK7, hn347⟩ ⟨hs.k 334 (by decide), hn334, by decide⟩ (by decide) (fun x y x0 x1 y0 y1 => (hB2 x y x0 (by rw [eT2] at x1; omega) y0 (by rw [eT2] at y1; omega)).2) (fun x y _ _ _ _ w => w.sym)) fX0_classes q1272 rfl (by decide) (hs.k 300 (by decide)) (by decide) (Nat.le_of_ble_eq_true rfl) (by omega) (by omega) dX0_laysGrid_183 (fun h2 n2 hp => ?_)
        obtain ⟨rfl, I3, rfl, f1, f2⟩ := hp
        refine gw_vret rfl dX0_laysGrid_186 (by omega) (by omega) ?_
        refine ⟨rfl, I3, rfl, fun x h1 h2 h3 h4 => by rw [f1 x h4, d1 x h3]; exact hF x h1 h2, fun u v u0 u1 v0 v1 => by rw [f1 346 (by decide), f1 347 (by decide)]; exact hB2 u v u0 u1 v0 v1, ?_, ?_⟩
        · rw [f1 333 (by decide), ← hT0]; exact d2
        · rw [eT2, hT0] at f2; exact f2
      · skip
        have hml : m < J 369 3 := by omega
        obtain ⟨c, c1, hKc, c2, c3, c4⟩ := hc.2 m m0 hml
        obtain ⟨o1, o2, o3⟩ := hco.2 m m0 hml
        have eIc : I1 c = I c := hI c (by rw [hKc]; decide)
        rw [← eIc] at c2 c3 c4
        have s1 := (hg.2.1 _ o1.1 o1.2).1
        have s2 := (hg.2.1 _ o2.1 o2.2).1
        have clup : ∀ k u v, clT J (m + 1) k u v ↔ (clT J m k u v ∨ (k = J 369 (424 + 3 * m + 2) ∧ twoOf (J 371 (J 369 (424 + 3 * m))) (J 371 (J 369 (424 + 3 * m + 1))) u v)) := fun k u v => by
          constructor
          · rintro ⟨i, h1, h2, h3⟩
            by_cases e : i = m
            · rw [e] at h2 h3; exact Or.inr ⟨h2, h3⟩
            · exact Or.inl ⟨i, by omega, h2, h3⟩
          · rintro (⟨i, h1, h2, h3⟩ | ⟨h2, h3⟩)
            · exact ⟨i, by omega, h2, h3⟩
            · exact ⟨m, by omega, h2, h3⟩
        refine x_aload_n dX0_laysGrid_93 rfl ?_
        refine g_getR 2 (r := some T) (ci := 1) (kf := 2) rfl (by decide) (by decide) rfl rfl q1307 rfl (hs.k 300 (by decide)) (ht.t) dX0_laysGrid_94 ?_
        refine g_getRN 10 (r := some (T + 5)) (ci := 3) (kf := 10) rfl (by decide) (by decide) rfl rfl q229 rfl (ht.k) (ht.r 10 (by decide)) dX0_laysGrid_97 ?_
        refine x_iload_n dX0_laysGrid_100 rfl ?_
        refine g_aald (t := 5) (r := some (c)) rfl rfl rfl (ht.a 5 (by decide)) rfl (by omega) (c1) dX0_laysGrid_101 ?_
        refine g_getIN 2 (ci := 5) (kf := 2) rfl (by decide) (by decide) rfl rfl q1986 rfl (by first | assumption | grind) dX0_laysGrid_102 ?_
        rw [c4]
        refine x_if_eq (t := 115) dX0_laysGrid_105 (by decide) (by omega) (fun c_105 => ?_) (fun c_105 => ?_)
        · skip
          refine x_aload_n dX0_laysGrid_115 rfl ?_
          refine g_getR 17 (r := some 346) (ci := 1) (kf := 17) rfl (by decide) (by decide) rfl rfl q1325 rfl (hs.k 300 (by decide)) (hs.r 17 (by decide)) dX0_laysGrid_116 ?_
          refine x_aload_n dX0_laysGrid_119 rfl ?_
          refine g_getR 8 (r := some 332) (ci := 1) (kf := 8) rfl (by decide) (by decide) rfl rfl q1316 rfl (hs.k 300 (by decide)) (hs.r 8 (by decide)) dX0_laysGrid_120 ?_
          refine x_aload_n dX0_laysGrid_123 rfl ?_
          refine g_getR 2 (r := some T) (ci := 1) (kf := 2) rfl (by decide) (by decide) rfl rfl q1307 rfl (hs.k 300 (by decide)) (ht.t) dX0_laysGrid_124 ?_
          refine g_getRN 10 (r := some (T + 5)) (ci := 3) (kf := 10) rfl (by decide) (by decide) rfl rfl q229 rfl (ht.k) (ht.r 10 (by decide)) dX0_laysGrid_127 ?_
          refine x_iload_n dX0_laysGrid_130 rfl ?_
          refine g_aald (t := 5) (r := some (c)) rfl rfl rfl (ht.a 5 (by decide)) rfl (by omega) (c1) dX0_laysGrid_131 ?_
          refine g_getIN 0 (ci := 5) (kf := 0) rfl (by decide) (by decide) rfl rfl q1982 rfl (by first | assumption | grind) dX0_laysGrid_132 ?_
          rw [c2]
          refine g_iald (hs.k 332 (by decide)) rfl (by omega) dX0_laysGrid_135 ?_
          rw [hI2, s1.1]
          refine x_aload_n dX0_laysGrid_136 rfl ?_
          refine g_getR 8 (r := some 332) (ci := 1) (kf := 8) rfl (by decide) (by decide) rfl rfl q1316 rfl (hs.k 300 (by decide)) (hs.r 8 (by decide)) dX0_laysGrid_137 ?_
          refine x_aload_n dX0_laysGrid_140 rfl ?_
          refine g_getR 2 (r := some T) (ci := 1) (kf := 2) rfl (by decide) (by decide) rfl rfl q1307 rfl (hs.k 300 (by decide)) (ht.t) dX0_laysGrid_141 ?_
          refine g_getRN 10 (r := some (T + 5)) (ci := 3) (kf := 10) rfl (by decide) (by decide) rfl rfl q229 rfl (ht.k) (ht.r 10 (by decide)) dX0_laysGrid_144 ?_
          refine x_iload_n dX0_laysGrid_147 rfl ?_
          refine g_aald (t := 5) (r := some (c)) rfl rfl rfl (ht.a 5 (by decide)) rfl (by omega) (c1) dX0_laysGrid_148 ?_
          refine g_getIN 1 (ci := 5) (kf := 1) rfl (by decide) (by decide) rfl rfl q1984 rfl (by first | assumption | grind) dX0_laysGrid_149 ?_
          rw [c3]
          refine g_iald (hs.k 332 (by decide)) rfl (by omega) dX0_laysGrid_152 ?_
          rw [hI2, s2.1]
          refine g_ct3 (jc_links (by assumption) (by assumption) (by decide) (by omega) (by omega)) fX0_links q1269 (by decide) (Nat.le_of_ble_eq_true rfl) (by omega) (by omega) dX0_laysGrid_153 (fun h2 n2 hp => ?_)
          obtain ⟨rfl, I2, rfl, l1, l2⟩ := hp
          refine x_iinc dX0_laysGrid_156 rfl (by decide) ?_
          refine x_goto (t := 82) dX0_laysGrid_159 (by decide) ?_
          refine ih I2 hml ⟨fun x h1 h2 => by rw [l1 x h1]; exact hF x h1 h2, fun u v u0 u1 v0 v1 => ⟨?_, ?_⟩⟩
          · rw [l2 u v u0 u1 v0 v1, (hB u v u0 u1 v0 v1).1]; dsimp only; rw [clup, or_assoc]
            exact or_congr Iff.rfl (or_congr Iff.rfl ⟨fun w => ⟨by omega, w⟩, fun w => w.2⟩)
          · rw [l1 347 (by decide), (hB u v u0 u1 v0 v1).2]; dsimp only; rw [clup]
            exact or_congr Iff.rfl ⟨Or.inl, fun w => w.elim id (fun t => by omega)⟩
        · skip
          refine x_aload_n dX0_laysGrid_108 rfl ?_
          refine g_getR 18 (r := some 347) (ci := 1) (kf := 18) rfl (by decide) (by decide) rfl rfl q1326 rfl (hs.k 300 (by decide)) (hs.r 18 (by decide)) dX0_laysGrid_109 ?_
          refine x_goto (t := 119) dX0_laysGrid_112 (by decide) ?_
          refine x_aload_n dX0_laysGrid_119 rfl ?_
          refine g_getR 8 (r := some 332) (ci := 1) (kf := 8) rfl (by decide) (by decide) rfl rfl q1316 rfl (hs.k 300 (by decide)) (hs.r 8 (by decide)) dX0_laysGrid_120 ?_
          refine x_aload_n dX0_laysGrid_123 rfl ?_
          refine g_getR 2 (r := some T) (ci := 1) (kf := 2) rfl (by decide) (by decide) rfl rfl q1307 rfl (hs.k 300 (by decide)) (ht.t) dX0_laysGrid_124 ?_
          refine g_getRN 10 (r := some (T + 5)) (ci := 3) (kf := 10) rfl (by decide) (by decide) rfl rfl q229 rfl (ht.k) (ht.r 10 (by decide)) dX0_laysGrid_127 ?_
          refine x_iload_n dX0_laysGrid_130 rfl ?_
          refine g_aald (t := 5) (r := some (c)) rfl rfl rfl (ht.a 5 (by decide)) rfl (by omega) (c1) dX0_laysGrid_131 ?_
          refine g_getIN 0 (ci := 5) (kf := 0) rfl (by decide) (by decide) rfl rfl q1982 rfl (by first | assumption | grind) dX0_laysGrid_132 ?_
          rw [c2]
          refine g_iald (hs.k 332 (by decide)) rfl (by omega) dX0_laysGrid_135 ?_
          rw [hI2, s1.1]
          refine x_aload_n dX0_laysGrid_136 rfl ?_
          refine g_getR 8 (r := some 332) (ci := 1) (kf := 8) rfl (by decide) (by decide) rfl rfl q1316 rfl (hs.k 300 (by decide)) (hs.r 8 (by decide)) dX0_laysGrid_137 ?_
          refine x_aload_n dX0_laysGrid_140 rfl ?_
          refine g_getR 2 (r := some T) (ci := 1) (kf := 2) rfl (by decide) (by decide) rfl rfl q1307 rfl (hs.k 300 (by decide)) (ht.t) dX0_laysGrid_141 ?_
          refine g_getRN 10 (r := some (T + 5)) (ci := 3) (kf := 10) rfl (by decide) (by decide) rfl rfl q229 rfl (ht.k) (ht.r 10 (by decide)) dX0_laysGrid_144 ?_
          refine x_iload_n dX0_laysGrid_147 rfl ?_
          refine g_aald (t := 5) (r := some (c)) rfl rfl rfl (ht.a 5 (by decide)) rfl (by omega) (c1) dX0_laysGrid_148 ?_
          refine g_getIN 1 (ci := 5) (kf := 1) rfl (by decide) (by decide) rfl rfl q1984 rfl (by first | assumption | grind) dX0_laysGrid_149 ?_
          rw [c3]
          refine g_iald (hs.k 332 (by decide)) rfl (by omega) dX0_laysGrid_152 ?_
          rw [hI2, s2.1]
          refine g_ct3 (jc_links (by assumption) (by assumption) (by decide) (by omega) (by omega)) fX0_links q1269 (by decide) (Nat.le_of_ble_eq_true rfl) (by omega) (by omega) dX0_laysGrid_153 (fun h2 n2 hp => ?_)
          obtain ⟨rfl, I2, rfl, l1, l2⟩ := hp
          refine x_iinc dX0_laysGrid_156 rfl (by decide) ?_
          refine x_goto (t := 82) dX0_laysGrid_159 (by decide) ?_
          refine ih I2 hml ⟨fun x h1 h2 => by rw [l1 x h2]; exact hF x h1 h2, fun u v u0 u1 v0 v1 => ⟨?_, ?_⟩⟩
          · rw [l1 346 (by decide), (hB u v u0 u1 v0 v1).1]; dsimp only; rw [clup]
            exact or_congr Iff.rfl ⟨Or.inl, fun w => w.elim id (fun t => by omega)⟩
          · rw [l2 u v u0 u1 v0 v1, (hB u v u0 u1 v0 v1).2]; dsimp only; rw [clup, or_assoc]
            exact or_congr Iff.rfl (or_congr Iff.rfl ⟨fun w => ⟨by omega, w⟩, fun w => w.2⟩)
    · skip
      refine x_iload_n dX0_laysGrid_39 rfl ?_
      refine x_iconst dX0_laysGrid_40 ?_
      refine x_iadd dX0_laysGrid_41 ?_
      refine x_istore_n dX0_laysGrid_42 (by decide) ?_
      have hil : i < L.length := by omega
      refine x_ls (ls2 := [some (vR (some 300)), some (vI i), some (vI (i + 1))]) rfl ?_
      refine s_for (W := fun (j : Int) (I1 : Nat → Int → Int) => gw G yX0_laysGrid cX0_laysGrid 3 (none) 23 0 0 (gI K N R nx (GdP J L I)) 43 [some (vR (some 300)), some (vI i), some (vI j)] [] (K, N, I1, R) nx 0 0) (fun j I1 => Gf I I1 ∧ Gb (clLt L i.toNat j.toNat) I1) (i + 1) (L.length : Int) I1 (by omega) ⟨hF, hB.iff (fun k u v _ => ⟨fun ⟨a, b, p, q, h1, h2, h3⟩ => ⟨a, b, p, q, h1, by omega, h3⟩, fun ⟨a, b, p, q, h1, h2, h3⟩ => ⟨a, b, p, q, h1, by omega, h3⟩⟩)⟩ ?_
      clear hF hB I1
      rintro j I1 j0 hj ⟨hF, hB⟩ ih2
      have hI := (hfr I1 hF).1
      refine x_iload_n dX0_laysGrid_43 rfl ?_
      refine x_aload_n dX0_laysGrid_44 rfl ?_
      refine g_getR 15 (r := some W0) (ci := 1) (kf := 15) rfl (by decide) (by decide) rfl rfl q1323 rfl (hs.k 300 (by decide)) (hW0) dX0_laysGrid_45 ?_
      refine g_alen (t := 6) rfl (by first | assumption | grind) (rfl) dX0_laysGrid_48 ?_
      refine x_icmp_ge (t := 74) dX0_laysGrid_49 (by decide) (by omega) (fun c_49 => ?_) (fun c_49 => ?_)
      · skip
        refine x_iinc dX0_laysGrid_74 rfl (by decide) ?_
        refine x_goto (t := 30) dX0_laysGrid_77 (by decide) ?_
        refine ih (_, _) hil ⟨hF, hB.iff (fun k u v _ => ?_)⟩
        have hjl : j = L.length := by omega
        constructor
        · rintro ⟨a, b, p, q, h1, h2, h3⟩
          exact ⟨a, b, p, q, h1, by omega, h3⟩
        · rintro ⟨a, b, p, q, h1, h2, h3, h4, h5⟩
          have := (List.getElem?_eq_some_iff.mp h4).1
          exact ⟨a, b, p, q, h1, by omega, h3, h4, h5⟩
      · skip
        have hjl : j < L.length := by omega
        obtain ⟨e, he⟩ : ∃ e, L[i.toNat]? = some e := ⟨_, List.getElem?_eq_getElem (by omega)⟩
        obtain ⟨f, hf⟩ : ∃ f, L[j.toNat]? = some f := ⟨_, List.getElem?_eq_getElem (by omega)⟩
        obtain ⟨x, x1, x2, -⟩ := hwe i.toNat e he
        obtain ⟨y, y1, y2, -⟩ := hwe j.toNat f hf
        rw [show ((i.toNat : Nat) : Int) = i by omega] at x1
        rw [show ((j.toNat : Nat) : Int) = j by omega] at y1
        have hKx := x2.1
        have hKy := y2.1
        refine x_aload_n dX0_laysGrid_52 rfl ?_
        refine x_aload_n dX0_laysGrid_53 rfl ?_
        refine g_getR 15 (r := some W0) (ci := 1) (kf := 15) rfl (by decide) (by decide) rfl rfl q1323 rfl (hs.k 300 (by decide)) (hW0) dX0_laysGrid_54 ?_
        refine x_iload_n dX0_laysGrid_57 rfl ?_
        refine g_aald (t := 6) (r := some (x)) rfl rfl rfl (by first | assumption | grind) rfl (by omega) (x1) dX0_laysGrid_58 ?_
        refine x_aload_n dX0_laysGrid_59 rfl ?_
        refine g_getR 15 (r := some W0) (ci := 1) (kf := 15) rfl (by decide) (by decide) rfl rfl q1323 rfl (hs.k 300 (by decide)) (hW0) dX0_laysGrid_60 ?_
        refine x_iload_n dX0_laysGrid_63 rfl ?_
        refine g_aald (t := 6) (r := some (y)) rfl rfl rfl (by first | assumption | grind) rfl (by omega) (y1) dX0_laysGrid_64 ?_
        refine g_cw2 (ci := 1) (jc_cluesOf hs (x2.ints hI) (y2.ints hI)) fX0_cluesOf q1257 rfl (by decide) (hs.k 300 (by decide)) (by decide) (Nat.le_of_ble_eq_true rfl) (by omega) (by omega) dX0_laysGrid_65 (fun h2 n2 hp => ?_)
        obtain ⟨rfl, I2, rfl, hp⟩ := hp
        refine x_iinc dX0_laysGrid_68 rfl (by decide) ?_
        refine x_goto (t := 43) dX0_laysGrid_71 (by decide) ?_
        refine ih2 I2 hjl ⟨hF.co hp, (hB.co hp).iff (fun k u v _ => ?_)⟩
        rw [show (j + 1).toNat = j.toNat + 1 by omega]
        exact (clLt_up he hf (by omega)).symm
  · skip
    refine x_aload_n dX0_laysGrid_8 rfl ?_
    refine g_getR 17 (r := some 346) (ci := 1) (kf := 17) rfl (by decide) (by decide) rfl rfl q1325 rfl (hs.k 300 (by decide)) (hs.r 17 (by decide)) dX0_laysGrid_9 ?_
    refine x_iload_n dX0_laysGrid_12 rfl ?_
    refine x_iconst dX0_laysGrid_13 ?_
    refine g_iast (hs.k 346 (by decide)) (by decide) rfl (by omega) dX0_laysGrid_14 ?_
    refine x_aload_n dX0_laysGrid_15 rfl ?_
    refine g_getR 18 (r := some 347) (ci := 1) (kf := 18) rfl (by decide) (by decide) rfl rfl q1326 rfl (hs.k 300 (by decide)) (hs.r 18 (by decide)) dX0_laysGrid_16 ?_
    refine x_iload_n dX0_laysGrid_19 rfl ?_
    refine x_iconst dX0_laysGrid_20 ?_
    refine g_iast (hs.k 347 (by decide)) (by decide) rfl (by omega) dX0_laysGrid_21 ?_
    refine x_iinc dX0_laysGrid_22 rfl (by decide) ?_
    refine x_goto (t := 2) dX0_laysGrid_25 (by decide) ?_
    refine ih _ (by omega) ⟨fun x h1 h2 => by rw [rr_u2_of h2, rr_u2_of h1]; exact hF x h1 h2, fun s s0 s1 => ?_⟩
    rw [rr_u2_of (x := 346) (a := 347) (by decide), rr_u2_at, rr_u2_at, rr_u2_of (x := 347) (a := 346) (by decide)]
    by_cases e : s = i
    · simp [e]
    · simp only [e, if_false]; exact hz s s0 (by omega)
end WD
