/-! TREES 6: fixAfterInsertion -/
set_option maxRecDepth 100000
section TM
variable {G : rr_G} {nx : Nat} {K N : Nat → Nat} {I I1 : Nat → Int → Int} {R R1 : Nat → Int → Option Nat} {M : Nat} {L : List Nat} {ps : Nat → Nat}
def FiP (K N : Nat → Nat) (I : Nat → Int → Int) (R : Nat → Int → Option Nat) (nx M : Nat) (L : List Nat) (ps : Nat → Nat) : rr_H → Nat → Prop := fun h2 n2 => nx = n2 ∧ ∃ (I2 : Nat → Int → Int) (R2 : Nat → Int → Option Nat) (lo hi : Nat → Nat), h2 = (K, N, I2, R2) ∧ Trr L ps lo hi (fun x => R2 x 2) (fun x => R2 x 3) (fun x => R2 x 4) (R2 M 3) ∧ Fx M L I R I2 R2 ∧ ∀ e, e ∈ L → I2 e 5 = 0 ∨ I2 e 5 = 1
theorem fix_end {x : Nat} {lo hi : Nat → Nat} (hE : En K M L) (ht : Trr L ps lo hi (fun x => R1 x 2) (fun x => R1 x 3) (fun x => R1 x 4) (R1 M 3)) (hF : Fx M L I R I1 R1) (hcol : ∀ e, e ∈ L → I1 e 5 = 0 ∨ I1 e 5 = 1) (hx : x ∈ L) : gw G yJ1_fixAfterInsertion cJ1_fixAfterInsertion 3 (none) 1 0 0 (FiP K N I R nx M L ps) 258 [some (vR (some M)), some (vR (some x)), none] [] (K, N, I1, R1) nx 0 0 := by
  obtain ⟨hM, hM3, hE⟩ := hE
  cases hr : R1 M 3 with
  | none =>
    rw [ht.2.2.2.2.2.2.2.2.2.1 hr] at hx
    cases hx
  | some r =>
    have hr2 := ht.2.2.2.2.2.2.2.2.2.2 r hr
    have hKr := hE r hr2.1
    refine x_aload_n dJ1_fixAfterInsertion_258 rfl ?_
    refine g_getR 3 (r := some r) (ci := 16) (kf := 3) rfl (by decide) (by decide) rfl rfl q277 rfl (by first | assumption | grind) (hr) dJ1_fixAfterInsertion_259 ?_
    refine x_iconst dJ1_fixAfterInsertion_262 ?_
    refine g_putI 5 (ci := 17) (kf := 5) rfl (by decide) (by decide) rfl rfl q903 rfl (hKr.1) (hKr.2) (Or.inl rfl) (rr_nar_z (by first | exact Or.inl rfl | exact Or.inr rfl | omega)) dJ1_fixAfterInsertion_263 ?_
    refine gw_vret rfl dJ1_fixAfterInsertion_266 (by omega) (by omega) ?_
    refine ⟨rfl, _, _, lo, hi, rfl, ht, hF.tr (Fx.col hr2.1), fun e he => ?_⟩
    have := hcol e he
    simp only [rr_u2]; grind
theorem fix_out {x : Nat} {lo hi : Nat → Nat} {y2 : Option rr_V} (hE : En K M L) (ht : Trr L ps lo hi (fun x => R1 x 2) (fun x => R1 x 3) (fun x => R1 x 4) (R1 M 3)) (hF : Fx M L I R I1 R1) (hcol : ∀ e, e ∈ L → I1 e 5 = 0 ∨ I1 e 5 = 1) (hx : x ∈ L) (ho : R1 M 3 = some x ∨ ∃ p, R1 x 4 = some p ∧ I1 p 5 = 1) : gw G yJ1_fixAfterInsertion cJ1_fixAfterInsertion 3 (none) 1 0 0 (FiP K N I R nx M L ps) 5 [some (vR (some M)), some (vR (some x)), y2] [] (K, N, I1, R1) nx 0 0 := by
  have hE2 := hE
  obtain ⟨hM, hM3, hE⟩ := hE
  refine x_loc (ls2 := [some (vR (some M)), some (vR (some x)), none]) (by repeat first | exact trivial | refine ⟨Or.inr rfl, ?_⟩ | refine ⟨Or.inl rfl, ?_⟩) ?_
  have hKx := hE x hx
  refine x_aload_n dJ1_fixAfterInsertion_5 rfl ?_
  refine x_ifnull_n dJ1_fixAfterInsertion_6 ?_
  refine x_aload_n dJ1_fixAfterInsertion_9 rfl ?_
  refine x_aload_n dJ1_fixAfterInsertion_10 rfl ?_
  refine g_getR 3 (r := _) (ci := 16) (kf := 3) rfl (by decide) (by decide) rfl rfl q277 rfl (by first | assumption | grind) rfl dJ1_fixAfterInsertion_11 ?_
  refine x_acmp_eq (t := 258) (by intro w hw; cases hw; show K x ≠ 0 ∧ _; omega) (by intro w hw; have := (ht.2.2.2.2.2.2.2.2.2.2 w hw).1; have := hE w this; show K w ≠ 0 ∧ _; omega) dJ1_fixAfterInsertion_14 (by decide) (fun c_14 => ?_) (fun c_14 => ?_)
  · skip
    exact fix_end hE2 ht hF hcol hx
  · skip
    obtain ⟨p, hp4, hp5⟩ : ∃ p, R1 x 4 = some p ∧ I1 p 5 = 1 := by
      rcases ho with q | q
      · exact absurd q.symm c_14
      · exact q
    have hpL := (ht.pc hx hp4).1
    have hKp := hE p hpL
    refine x_aload_n dJ1_fixAfterInsertion_17 rfl ?_
    refine g_getR 4 (r := some p) (ci := 17) (kf := 4) rfl (by decide) (by decide) rfl rfl q901 rfl (by first | assumption | grind) (hp4) dJ1_fixAfterInsertion_18 ?_
    refine g_getI 5 (ci := 17) (kf := 5) rfl (by decide) (by decide) rfl rfl q903 rfl (hKp.1) dJ1_fixAfterInsertion_21 ?_
    rw [hp5]
    refine x_if_ne (t := 258) dJ1_fixAfterInsertion_24 (by decide) (by omega) (fun c_24 => ?_) (fun c_24 => absurd c_24 (by decide))
    exact fix_end hE2 ht hF hcol hx
theorem fix_97 {x p g : Nat} {lo hi : Nat → Nat} (hE : En K M L) (ht : Trr L ps lo hi (fun x => R1 x 2) (fun x => R1 x 3) (fun x => R1 x 4) (R1 M 3)) (hF : Fx M L I R I1 R1) (hcol : ∀ e, e ∈ L → I1 e 5 = 0 ∨ I1 e 5 = 1) (hx : x ∈ L) (hx4 : R1 x 4 = some p) (hg : R1 p 4 = some g) (hgl : R1 g 2 = some p) : gw G yJ1_fixAfterInsertion cJ1_fixAfterInsertion 3 (none) 1 0 0 (FiP K N I R nx M L ps) 97 [some (vR (some M)), some (vR (some x)), none] [] (K, N, I1, R1) nx 0 0 := by
  have hE2 := hE
  obtain ⟨hM, hM3, hEe⟩ := hE
  have hML : M ∉ L := fun q => by have := (hEe M q).1; omega
  have hpx := ht.pc hx hx4
  have hp := hpx.1
  have hgx := ht.pc hp hg
  have hgL := hgx.1
  have hgc := ht.lc hgL hgl
  have hKx := hEe x hx
  have hKp := hEe p hp
  have hKg := hEe g hgL
  have hxM : x ≠ M := fun q => hML (q ▸ hx)
  have hpM : p ≠ M := fun q => hML (q ▸ hp)
  have hgM : g ≠ M := fun q => hML (q ▸ hgL)
  have hxp := hpx.2.1
  have hpg := hgx.2.1
  have hxg : x ≠ g := by
    intro e
    have a1 := ht.2.2.1 g hgL
    have a2 := ht.2.2.1 p hp
    have a3 := ht.2.2.1 x hx
    rw [e] at hpx
    rcases hpx.2.2 with q | q <;> omega
  refine x_aload_n dJ1_fixAfterInsertion_97 rfl ?_
  refine x_aload_n dJ1_fixAfterInsertion_98 rfl ?_
  refine g_cs1 (jc_parentOf hKx.1 hx4) fJ1_parentOf q925 (by decide) (Nat.le_of_ble_eq_true rfl) (by omega) (by omega) dJ1_fixAfterInsertion_99 (fun v h2 n2 hp => ?_)
  obtain ⟨rfl, rfl, rfl⟩ := hp
  refine g_cs1 (jc_rightOf hKp.1 rfl) fJ1_rightOf q931 (by decide) (Nat.le_of_ble_eq_true rfl) (by omega) (by omega) dJ1_fixAfterInsertion_102 (fun v h2 n2 hp => ?_)
  obtain ⟨rfl, rfl, rfl⟩ := hp
  refine x_acmp_ne (t := 118) (by intro w hw; cases hw; show K x ≠ 0 ∧ _; omega) (by intro w hw; have := (ht.rc hp hw).1; have := hEe w this; show K w ≠ 0 ∧ _; omega) dJ1_fixAfterInsertion_105 (by decide) (fun c_105 => ?_) (fun c_105 => ?_)
  · skip
    refine x_aload_n dJ1_fixAfterInsertion_118 rfl ?_
    refine g_cs1 (jc_parentOf hKx.1 hx4) fJ1_parentOf q925 (by decide) (Nat.le_of_ble_eq_true rfl) (by omega) (by omega) dJ1_fixAfterInsertion_119 (fun v h2 n2 hp => ?_)
    obtain ⟨rfl, rfl, rfl⟩ := hp
    refine x_iconst dJ1_fixAfterInsertion_122 ?_
    refine g_ct2 (jc_setColor hKp.1 hKp.2 (Or.inr rfl)) fJ1_setColor q937 (by decide) (Nat.le_of_ble_eq_true rfl) (by omega) (by omega) dJ1_fixAfterInsertion_123 (fun h2 n2 hp => ?_)
    obtain ⟨rfl, rfl⟩ := hp
    refine x_aload_n dJ1_fixAfterInsertion_126 rfl ?_
    refine g_cs1 (jc_parentOf hKx.1 hx4) fJ1_parentOf q925 (by decide) (Nat.le_of_ble_eq_true rfl) (by omega) (by omega) dJ1_fixAfterInsertion_127 (fun v h2 n2 hp => ?_)
    obtain ⟨rfl, rfl, rfl⟩ := hp
    refine g_cs1 (jc_parentOf hKp.1 hg) fJ1_parentOf q925 (by decide) (Nat.le_of_ble_eq_true rfl) (by omega) (by omega) dJ1_fixAfterInsertion_130 (fun v h2 n2 hp => ?_)
    obtain ⟨rfl, rfl, rfl⟩ := hp
    refine x_iconst dJ1_fixAfterInsertion_133 ?_
    refine g_ct2 (jc_setColor hKg.1 hKg.2 (Or.inl rfl)) fJ1_setColor q937 (by decide) (Nat.le_of_ble_eq_true rfl) (by omega) (by omega) dJ1_fixAfterInsertion_134 (fun h2 n2 hp => ?_)
    obtain ⟨rfl, rfl⟩ := hp
    refine x_aload_n dJ1_fixAfterInsertion_137 rfl ?_
    refine x_aload_n dJ1_fixAfterInsertion_138 rfl ?_
    refine g_cs1 (jc_parentOf hKx.1 hx4) fJ1_parentOf q925 (by decide) (Nat.le_of_ble_eq_true rfl) (by omega) (by omega) dJ1_fixAfterInsertion_139 (fun v h2 n2 hp => ?_)
    obtain ⟨rfl, rfl, rfl⟩ := hp
    refine g_cs1 (jc_parentOf hKp.1 hg) fJ1_parentOf q925 (by decide) (Nat.le_of_ble_eq_true rfl) (by omega) (by omega) dJ1_fixAfterInsertion_142 (fun v h2 n2 hp => ?_)
    obtain ⟨rfl, rfl, rfl⟩ := hp
    refine g_cw1 (ci := 16) (jc_rotateRight hE2 ht hgL hgl) fJ1_rotateRight q944 rfl (by decide) (by first | assumption | grind) (by decide) (Nat.le_of_ble_eq_true rfl) (by omega) (by omega) dJ1_fixAfterInsertion_145 (fun h2 n2 hp => ?_)
    obtain ⟨rfl, rfl⟩ := hp
    refine x_goto (t := 5) dJ1_fixAfterInsertion_148 (by decide) ?_
    obtain ⟨lo2, hi2, ht2⟩ := rR_tr ht hML hgL hgl
    refine fix_out hE2 ht2 (hF.tr ((Fx.col hp).tr ((Fx.col hgL).tr (Fx.rr ht hML hgL hgl)))) ?_ hx (Or.inr ⟨p, ?_, ?_⟩)
    · intro e he
      have := hcol e he
      simp only [rr_u2]; grind
    · have h3 : ¬ R1 p 3 = some x := fun q => c_105 q.symm
      simp [rR, spa, hxM, hxg, hxp.symm, h3, hx4]
    · simp [rr_u2, hpg.symm]
  · skip
    refine x_aload_n dJ1_fixAfterInsertion_108 rfl ?_
    refine g_cs1 (jc_parentOf hKx.1 hx4) fJ1_parentOf q925 (by decide) (Nat.le_of_ble_eq_true rfl) (by omega) (by omega) dJ1_fixAfterInsertion_109 (fun v h2 n2 hp => ?_)
    obtain ⟨rfl, rfl, rfl⟩ := hp
    refine x_astore_n dJ1_fixAfterInsertion_112 (by decide) ?_
    refine x_aload_n dJ1_fixAfterInsertion_113 rfl ?_
    refine x_aload_n dJ1_fixAfterInsertion_114 rfl ?_
    refine g_cw1 (ci := 16) (jc_rotateLeft hE2 ht hp c_105.symm) fJ1_rotateLeft q940 rfl (by decide) (by first | assumption | grind) (by decide) (Nat.le_of_ble_eq_true rfl) (by omega) (by omega) dJ1_fixAfterInsertion_115 (fun h2 n2 hp => ?_)
    obtain ⟨rfl, rfl⟩ := hp
    have hxr : R1 p 3 = some x := c_105.symm
    obtain ⟨lo2, hi2, ht2⟩ := rL_tr ht hML hp hxr
    have hF2 : Fx M L I R I1 (rL R1 M p x) := hF.tr (Fx.rl ht hML hp hxr)
    have e1 : rL R1 M p x p 4 = some x := by simp [rL, rpa, hpM]
    have e2 : rL R1 M p x x 4 = some g := by simp [rL, rpa, hxM, hxp.symm, hg]
    have e3 : rL R1 M p x g 2 = some x := by simp [rL, rlf, slf, hgM, hxg.symm, hg, hgl, hpg, hpg.symm]
    have hxc := ht2.lc hgL e3
    refine x_aload_n dJ1_fixAfterInsertion_118 rfl ?_
    refine g_cs1 (jc_parentOf hKp.1 e1) fJ1_parentOf q925 (by decide) (Nat.le_of_ble_eq_true rfl) (by omega) (by omega) dJ1_fixAfterInsertion_119 (fun v h2 n2 hp => ?_)
    obtain ⟨rfl, rfl, rfl⟩ := hp
    refine x_iconst dJ1_fixAfterInsertion_122 ?_
    refine g_ct2 (jc_setColor hKx.1 hKx.2 (Or.inr rfl)) fJ1_setColor q937 (by decide) (Nat.le_of_ble_eq_true rfl) (by omega) (by omega) dJ1_fixAfterInsertion_123 (fun h2 n2 hp => ?_)
    obtain ⟨rfl, rfl⟩ := hp
    refine x_aload_n dJ1_fixAfterInsertion_126 rfl ?_
    refine g_cs1 (jc_parentOf hKp.1 e1) fJ1_parentOf q925 (by decide) (Nat.le_of_ble_eq_true rfl) (by omega) (by omega) dJ1_fixAfterInsertion_127 (fun v h2 n2 hp => ?_)
    obtain ⟨rfl, rfl, rfl⟩ := hp
    refine g_cs1 (jc_parentOf hKx.1 e2) fJ1_parentOf q925 (by decide) (Nat.le_of_ble_eq_true rfl) (by omega) (by omega) dJ1_fixAfterInsertion_130 (fun v h2 n2 hp => ?_)
    obtain ⟨rfl, rfl, rfl⟩ := hp
    refine x_iconst dJ1_fixAfterInsertion_133 ?_
    refine g_ct2 (jc_setColor hKg.1 hKg.2 (Or.inl rfl)) fJ1_setColor q937 (by decide) (Nat.le_of_ble_eq_true rfl) (by omega) (by omega) dJ1_fixAfterInsertion_134 (fun h2 n2 hp => ?_)
    obtain ⟨rfl, rfl⟩ := hp
    refine x_aload_n dJ1_fixAfterInsertion_137 rfl ?_
    refine x_aload_n dJ1_fixAfterInsertion_138 rfl ?_
    refine g_cs1 (jc_parentOf hKp.1 e1) fJ1_parentOf q925 (by decide) (Nat.le_of_ble_eq_true rfl) (by omega) (by omega) dJ1_fixAfterInsertion_139 (fun v h2 n2 hp => ?_)
    obtain ⟨rfl, rfl, rfl⟩ := hp
    refine g_cs1 (jc_parentOf hKx.1 e2) fJ1_parentOf q925 (by decide) (Nat.le_of_ble_eq_true rfl) (by omega) (by omega) dJ1_fixAfterInsertion_142 (fun v h2 n2 hp => ?_)
    obtain ⟨rfl, rfl, rfl⟩ := hp
    refine g_cw1 (ci := 16) (jc_rotateRight hE2 ht2 hgL e3) fJ1_rotateRight q944 rfl (by decide) (by first | assumption | grind) (by decide) (Nat.le_of_ble_eq_true rfl) (by omega) (by omega) dJ1_fixAfterInsertion_145 (fun h2 n2 hp => ?_)
    obtain ⟨rfl, rfl⟩ := hp
    refine x_goto (t := 5) dJ1_fixAfterInsertion_148 (by decide) ?_
    obtain ⟨lo3, hi3, ht3⟩ := rR_tr ht2 hML hgL e3
    refine fix_out hE2 ht3 (hF2.tr ((Fx.col hx).tr ((Fx.col hgL).tr (Fx.rr ht2 hML hgL e3)))) ?_ hp (Or.inr ⟨x, ?_, ?_⟩)
    · intro e he
      have := hcol e he
      simp only [rr_u2]; grind
    · have hpc2 := ht2.pc hp e1
      have h3 : ¬ rL R1 M p x x 3 = some p := by
        have e4 : rL R1 M p x x 2 = some p := by simp [rL, rlf, slf, hxM]
        have := ht2.lc hx e4
        grind
      simp only [rR, spa, if_neg hpM, e1, e2]
      simp [hpg.symm, hxp, h3]
    · simp [rr_u2, hxg]
theorem fix_204 {x p g : Nat} {lo hi : Nat → Nat} (hE : En K M L) (ht : Trr L ps lo hi (fun x => R1 x 2) (fun x => R1 x 3) (fun x => R1 x 4) (R1 M 3)) (hF : Fx M L I R I1 R1) (hcol : ∀ e, e ∈ L → I1 e 5 = 0 ∨ I1 e 5 = 1) (hx : x ∈ L) (hx4 : R1 x 4 = some p) (hg : R1 p 4 = some g) (hgl : R1 g 3 = some p) : gw G yJ1_fixAfterInsertion cJ1_fixAfterInsertion 3 (none) 1 0 0 (FiP K N I R nx M L ps) 204 [some (vR (some M)), some (vR (some x)), none] [] (K, N, I1, R1) nx 0 0 := by
  have hE2 := hE
  obtain ⟨hM, hM3, hEe⟩ := hE
  have hML : M ∉ L := fun q => by have := (hEe M q).1; omega
  have hpx := ht.pc hx hx4
  have hp := hpx.1
  have hgx := ht.pc hp hg
  have hgL := hgx.1
  have hgc := ht.rc hgL hgl
  have hKx := hEe x hx
  have hKp := hEe p hp
  have hKg := hEe g hgL
  have hxM : x ≠ M := fun q => hML (q ▸ hx)
  have hpM : p ≠ M := fun q => hML (q ▸ hp)
  have hgM : g ≠ M := fun q => hML (q ▸ hgL)
  have hxp := hpx.2.1
  have hpg := hgx.2.1
  have hxg : x ≠ g := by
    intro e
    have a1 := ht.2.2.1 g hgL
    have a2 := ht.2.2.1 p hp
    have a3 := ht.2.2.1 x hx
    rw [e] at hpx
    rcases hpx.2.2 with q | q <;> omega
  refine x_aload_n dJ1_fixAfterInsertion_204 rfl ?_
  refine x_aload_n dJ1_fixAfterInsertion_205 rfl ?_
  refine g_cs1 (jc_parentOf hKx.1 hx4) fJ1_parentOf q925 (by decide) (Nat.le_of_ble_eq_true rfl) (by omega) (by omega) dJ1_fixAfterInsertion_206 (fun v h2 n2 hp => ?_)
  obtain ⟨rfl, rfl, rfl⟩ := hp
  refine g_cs1 (jc_leftOf hKp.1 rfl) fJ1_leftOf q928 (by decide) (Nat.le_of_ble_eq_true rfl) (by omega) (by omega) dJ1_fixAfterInsertion_209 (fun v h2 n2 hp => ?_)
  obtain ⟨rfl, rfl, rfl⟩ := hp
  refine x_acmp_ne (t := 225) (by intro w hw; cases hw; show K x ≠ 0 ∧ _; omega) (by intro w hw; have := (ht.lc hp hw).1; have := hEe w this; show K w ≠ 0 ∧ _; omega) dJ1_fixAfterInsertion_212 (by decide) (fun c_212 => ?_) (fun c_212 => ?_)
  · skip
    refine x_aload_n dJ1_fixAfterInsertion_225 rfl ?_
    refine g_cs1 (jc_parentOf hKx.1 hx4) fJ1_parentOf q925 (by decide) (Nat.le_of_ble_eq_true rfl) (by omega) (by omega) dJ1_fixAfterInsertion_226 (fun v h2 n2 hp => ?_)
    obtain ⟨rfl, rfl, rfl⟩ := hp
    refine x_iconst dJ1_fixAfterInsertion_229 ?_
    refine g_ct2 (jc_setColor hKp.1 hKp.2 (Or.inr rfl)) fJ1_setColor q937 (by decide) (Nat.le_of_ble_eq_true rfl) (by omega) (by omega) dJ1_fixAfterInsertion_230 (fun h2 n2 hp => ?_)
    obtain ⟨rfl, rfl⟩ := hp
    refine x_aload_n dJ1_fixAfterInsertion_233 rfl ?_
    refine g_cs1 (jc_parentOf hKx.1 hx4) fJ1_parentOf q925 (by decide) (Nat.le_of_ble_eq_true rfl) (by omega) (by omega) dJ1_fixAfterInsertion_234 (fun v h2 n2 hp => ?_)
    obtain ⟨rfl, rfl, rfl⟩ := hp
    refine g_cs1 (jc_parentOf hKp.1 hg) fJ1_parentOf q925 (by decide) (Nat.le_of_ble_eq_true rfl) (by omega) (by omega) dJ1_fixAfterInsertion_237 (fun v h2 n2 hp => ?_)
    obtain ⟨rfl, rfl, rfl⟩ := hp
    refine x_iconst dJ1_fixAfterInsertion_240 ?_
    refine g_ct2 (jc_setColor hKg.1 hKg.2 (Or.inl rfl)) fJ1_setColor q937 (by decide) (Nat.le_of_ble_eq_true rfl) (by omega) (by omega) dJ1_fixAfterInsertion_241 (fun h2 n2 hp => ?_)
    obtain ⟨rfl, rfl⟩ := hp
    refine x_aload_n dJ1_fixAfterInsertion_244 rfl ?_
    refine x_aload_n dJ1_fixAfterInsertion_245 rfl ?_
    refine g_cs1 (jc_parentOf hKx.1 hx4) fJ1_parentOf q925 (by decide) (Nat.le_of_ble_eq_true rfl) (by omega) (by omega) dJ1_fixAfterInsertion_246 (fun v h2 n2 hp => ?_)
    obtain ⟨rfl, rfl, rfl⟩ := hp
    refine g_cs1 (jc_parentOf hKp.1 hg) fJ1_parentOf q925 (by decide) (Nat.le_of_ble_eq_true rfl) (by omega) (by omega) dJ1_fixAfterInsertion_249 (fun v h2 n2 hp => ?_)
    obtain ⟨rfl, rfl, rfl⟩ := hp
    refine g_cw1 (ci := 16) (jc_rotateLeft hE2 ht hgL hgl) fJ1_rotateLeft q940 rfl (by decide) (by first | assumption | grind) (by decide) (Nat.le_of_ble_eq_true rfl) (by omega) (by omega) dJ1_fixAfterInsertion_252 (fun h2 n2 hp => ?_)
    obtain ⟨rfl, rfl⟩ := hp
    refine x_goto (t := 5) dJ1_fixAfterInsertion_255 (by decide) ?_
    obtain ⟨lo2, hi2, ht2⟩ := rL_tr ht hML hgL hgl
    refine fix_out hE2 ht2 (hF.tr ((Fx.col hp).tr ((Fx.col hgL).tr (Fx.rl ht hML hgL hgl)))) ?_ hx (Or.inr ⟨p, ?_, ?_⟩)
    · intro e he
      have := hcol e he
      simp only [rr_u2]; grind
    · have h3 : ¬ R1 p 2 = some x := fun q => c_212 q.symm
      simp [rL, rpa, hxM, hxg, hxp.symm, h3, hx4]
    · simp [rr_u2, hpg.symm]
  · skip
    refine x_aload_n dJ1_fixAfterInsertion_215 rfl ?_
    refine g_cs1 (jc_parentOf hKx.1 hx4) fJ1_parentOf q925 (by decide) (Nat.le_of_ble_eq_true rfl) (by omega) (by omega) dJ1_fixAfterInsertion_216 (fun v h2 n2 hp => ?_)
    obtain ⟨rfl, rfl, rfl⟩ := hp
    refine x_astore_n dJ1_fixAfterInsertion_219 (by decide) ?_
    refine x_aload_n dJ1_fixAfterInsertion_220 rfl ?_
    refine x_aload_n dJ1_fixAfterInsertion_221 rfl ?_
    refine g_cw1 (ci := 16) (jc_rotateRight hE2 ht hp c_212.symm) fJ1_rotateRight q944 rfl (by decide) (by first | assumption | grind) (by decide) (Nat.le_of_ble_eq_true rfl) (by omega) (by omega) dJ1_fixAfterInsertion_222 (fun h2 n2 hp => ?_)
    obtain ⟨rfl, rfl⟩ := hp
    have hxr : R1 p 2 = some x := c_212.symm
    obtain ⟨lo2, hi2, ht2⟩ := rR_tr ht hML hp hxr
    have hF2 : Fx M L I R I1 (rR R1 M p x) := hF.tr (Fx.rr ht hML hp hxr)
    have e1 : rR R1 M p x p 4 = some x := by simp [rR, spa, hpM]
    have e2 : rR R1 M p x x 4 = some g := by simp [rR, spa, hxM, hxp.symm, hg]
    have e3 : rR R1 M p x g 3 = some x := by simp [rR, srt, rrt, hgM, hxg.symm, hg, hgl, hpg, hpg.symm]
    have hxc := ht2.rc hgL e3
    refine x_aload_n dJ1_fixAfterInsertion_225 rfl ?_
    refine g_cs1 (jc_parentOf hKp.1 e1) fJ1_parentOf q925 (by decide) (Nat.le_of_ble_eq_true rfl) (by omega) (by omega) dJ1_fixAfterInsertion_226 (fun v h2 n2 hp => ?_)
    obtain ⟨rfl, rfl, rfl⟩ := hp
    refine x_iconst dJ1_fixAfterInsertion_229 ?_
    refine g_ct2 (jc_setColor hKx.1 hKx.2 (Or.inr rfl)) fJ1_setColor q937 (by decide) (Nat.le_of_ble_eq_true rfl) (by omega) (by omega) dJ1_fixAfterInsertion_230 (fun h2 n2 hp => ?_)
    obtain ⟨rfl, rfl⟩ := hp
    refine x_aload_n dJ1_fixAfterInsertion_233 rfl ?_
    refine g_cs1 (jc_parentOf hKp.1 e1) fJ1_parentOf q925 (by decide) (Nat.le_of_ble_eq_true rfl) (by omega) (by omega) dJ1_fixAfterInsertion_234 (fun v h2 n2 hp => ?_)
    obtain ⟨rfl, rfl, rfl⟩ := hp
    refine g_cs1 (jc_parentOf hKx.1 e2) fJ1_parentOf q925 (by decide) (Nat.le_of_ble_eq_true rfl) (by omega) (by omega) dJ1_fixAfterInsertion_237 (fun v h2 n2 hp => ?_)
    obtain ⟨rfl, rfl, rfl⟩ := hp
    refine x_iconst dJ1_fixAfterInsertion_240 ?_
    refine g_ct2 (jc_setColor hKg.1 hKg.2 (Or.inl rfl)) fJ1_setColor q937 (by decide) (Nat.le_of_ble_eq_true rfl) (by omega) (by omega) dJ1_fixAfterInsertion_241 (fun h2 n2 hp => ?_)
    obtain ⟨rfl, rfl⟩ := hp
    refine x_aload_n dJ1_fixAfterInsertion_244 rfl ?_
    refine x_aload_n dJ1_fixAfterInsertion_245 rfl ?_
    refine g_cs1 (jc_parentOf hKp.1 e1) fJ1_parentOf q925 (by decide) (Nat.le_of_ble_eq_true rfl) (by omega) (by omega) dJ1_fixAfterInsertion_246 (fun v h2 n2 hp => ?_)
    obtain ⟨rfl, rfl, rfl⟩ := hp
    refine g_cs1 (jc_parentOf hKx.1 e2) fJ1_parentOf q925 (by decide) (Nat.le_of_ble_eq_true rfl) (by omega) (by omega) dJ1_fixAfterInsertion_249 (fun v h2 n2 hp => ?_)
    obtain ⟨rfl, rfl, rfl⟩ := hp
    refine g_cw1 (ci := 16) (jc_rotateLeft hE2 ht2 hgL e3) fJ1_rotateLeft q940 rfl (by decide) (by first | assumption | grind) (by decide) (Nat.le_of_ble_eq_true rfl) (by omega) (by omega) dJ1_fixAfterInsertion_252 (fun h2 n2 hp => ?_)
    obtain ⟨rfl, rfl⟩ := hp
    refine x_goto (t := 5) dJ1_fixAfterInsertion_255 (by decide) ?_
    obtain ⟨lo3, hi3, ht3⟩ := rL_tr ht2 hML hgL e3
    refine fix_out hE2 ht3 (hF2.tr ((Fx.col hx).tr ((Fx.col hgL).tr (Fx.rl ht2 hML hgL e3)))) ?_ hp (Or.inr ⟨x, ?_, ?_⟩)
    · intro e he
      have := hcol e he
      simp only [rr_u2]; grind
    · have hpc2 := ht2.pc hp e1
      have h3 : ¬ rR R1 M p x x 2 = some p := by
        have e4 : rR R1 M p x x 3 = some p := by simp [rR, srt, rrt, hxM]
        have := ht2.rc hx e4
        grind
      simp only [rL, rpa, if_neg hpM, e1, e2]
      simp [hpg.symm, hxp, h3]
    · simp [rr_u2, hxg]
theorem fix_0 {x p : Nat} {lo hi : Nat → Nat} (hE : En K M L) (ht : Trr L ps lo hi (fun x => R1 x 2) (fun x => R1 x 3) (fun x => R1 x 4) (R1 M 3)) (hF : Fx M L I R I1 R1) (hcol : ∀ e, e ∈ L → I1 e 5 = 0 ∨ I1 e 5 = 1) (hx : x ∈ L) (hx4 : R1 x 4 = some p) (hg : R1 p 4 = none) : gw G yJ1_fixAfterInsertion cJ1_fixAfterInsertion 3 (none) 1 0 0 (FiP K N I R nx M L ps) 27 [some (vR (some M)), some (vR (some x)), none] [] (K, N, I1, R1) nx 0 0 := by
  have hE2 := hE
  obtain ⟨hM, hM3, hEe⟩ := hE
  have hML : M ∉ L := fun q => by have := (hEe M q).1; omega
  have hpx := ht.pc hx hx4
  have hp := hpx.1
  have hKx := hEe x hx
  have hKp := hEe p hp
  have hxM : x ≠ M := fun q => hML (q ▸ hx)
  have hpM : p ≠ M := fun q => hML (q ▸ hp)
  have hxp := hpx.2.1
  refine x_aload_n dJ1_fixAfterInsertion_27 rfl ?_
  refine g_cs1 (jc_parentOf hKx.1 hx4) fJ1_parentOf q925 (by decide) (Nat.le_of_ble_eq_true rfl) (by omega) (by omega) dJ1_fixAfterInsertion_28 (fun v h2 n2 hp => ?_)
  obtain ⟨rfl, rfl, rfl⟩ := hp
  refine x_aload_n dJ1_fixAfterInsertion_31 rfl ?_
  refine g_cs1 (jc_parentOf hKx.1 hx4) fJ1_parentOf q925 (by decide) (Nat.le_of_ble_eq_true rfl) (by omega) (by omega) dJ1_fixAfterInsertion_32 (fun v h2 n2 hp => ?_)
  obtain ⟨rfl, rfl, rfl⟩ := hp
  refine g_cs1 (jc_parentOf hKp.1 hg) fJ1_parentOf q925 (by decide) (Nat.le_of_ble_eq_true rfl) (by omega) (by omega) dJ1_fixAfterInsertion_35 (fun v h2 n2 hp => ?_)
  obtain ⟨rfl, rfl, rfl⟩ := hp
  refine g_cs1 (jc_leftOfN) fJ1_leftOf q928 (by decide) (Nat.le_of_ble_eq_true rfl) (by omega) (by omega) dJ1_fixAfterInsertion_38 (fun v h2 n2 hp => ?_)
  obtain ⟨rfl, rfl, rfl⟩ := hp
  refine x_acmp_ne (t := 151) (by intro w hw; cases hw; show K p ≠ 0 ∧ _; omega) (by intro w hw; cases hw) dJ1_fixAfterInsertion_41 (by decide) (fun c_41 => ?_) (fun c_41 => ?_)
  · skip
    refine x_aload_n dJ1_fixAfterInsertion_151 rfl ?_
    refine g_cs1 (jc_parentOf hKx.1 hx4) fJ1_parentOf q925 (by decide) (Nat.le_of_ble_eq_true rfl) (by omega) (by omega) dJ1_fixAfterInsertion_152 (fun v h2 n2 hp => ?_)
    obtain ⟨rfl, rfl, rfl⟩ := hp
    refine g_cs1 (jc_parentOf hKp.1 hg) fJ1_parentOf q925 (by decide) (Nat.le_of_ble_eq_true rfl) (by omega) (by omega) dJ1_fixAfterInsertion_155 (fun v h2 n2 hp => ?_)
    obtain ⟨rfl, rfl, rfl⟩ := hp
    refine g_cs1 (jc_leftOfN) fJ1_leftOf q928 (by decide) (Nat.le_of_ble_eq_true rfl) (by omega) (by omega) dJ1_fixAfterInsertion_158 (fun v h2 n2 hp => ?_)
    obtain ⟨rfl, rfl, rfl⟩ := hp
    refine x_astore_n dJ1_fixAfterInsertion_161 (by decide) ?_
    refine x_aload_n dJ1_fixAfterInsertion_162 rfl ?_
    refine g_cs1 (jc_colorOfN) fJ1_colorOf q934 (by decide) (Nat.le_of_ble_eq_true rfl) (by omega) (by omega) dJ1_fixAfterInsertion_163 (fun v h2 n2 hp => ?_)
    obtain ⟨rfl, rfl, rfl⟩ := hp
    refine x_if_ne (t := 204) dJ1_fixAfterInsertion_166 (by decide) (by omega) (fun c_166 => ?_) (fun c_166 => absurd c_166 (by decide))
    refine x_aload_n dJ1_fixAfterInsertion_204 rfl ?_
    refine x_aload_n dJ1_fixAfterInsertion_205 rfl ?_
    refine g_cs1 (jc_parentOf hKx.1 hx4) fJ1_parentOf q925 (by decide) (Nat.le_of_ble_eq_true rfl) (by omega) (by omega) dJ1_fixAfterInsertion_206 (fun v h2 n2 hp => ?_)
    obtain ⟨rfl, rfl, rfl⟩ := hp
    refine g_cs1 (jc_leftOf hKp.1 rfl) fJ1_leftOf q928 (by decide) (Nat.le_of_ble_eq_true rfl) (by omega) (by omega) dJ1_fixAfterInsertion_209 (fun v h2 n2 hp => ?_)
    obtain ⟨rfl, rfl, rfl⟩ := hp
    refine x_acmp_ne (t := 225) (by intro w hw; cases hw; show K x ≠ 0 ∧ _; omega) (by intro w hw; have := (ht.lc hp hw).1; have := hEe w this; show K w ≠ 0 ∧ _; omega) dJ1_fixAfterInsertion_212 (by decide) (fun c_212 => ?_) (fun c_212 => ?_)
    · skip
      refine x_aload_n dJ1_fixAfterInsertion_225 rfl ?_
      refine g_cs1 (jc_parentOf hKx.1 hx4) fJ1_parentOf q925 (by decide) (Nat.le_of_ble_eq_true rfl) (by omega) (by omega) dJ1_fixAfterInsertion_226 (fun v h2 n2 hp => ?_)
      obtain ⟨rfl, rfl, rfl⟩ := hp
      refine x_iconst dJ1_fixAfterInsertion_229 ?_
      refine g_ct2 (jc_setColor hKp.1 hKp.2 (Or.inr rfl)) fJ1_setColor q937 (by decide) (Nat.le_of_ble_eq_true rfl) (by omega) (by omega) dJ1_fixAfterInsertion_230 (fun h2 n2 hp => ?_)
      obtain ⟨rfl, rfl⟩ := hp
      refine x_aload_n dJ1_fixAfterInsertion_233 rfl ?_
      refine g_cs1 (jc_parentOf hKx.1 hx4) fJ1_parentOf q925 (by decide) (Nat.le_of_ble_eq_true rfl) (by omega) (by omega) dJ1_fixAfterInsertion_234 (fun v h2 n2 hp => ?_)
      obtain ⟨rfl, rfl, rfl⟩ := hp
      refine g_cs1 (jc_parentOf hKp.1 hg) fJ1_parentOf q925 (by decide) (Nat.le_of_ble_eq_true rfl) (by omega) (by omega) dJ1_fixAfterInsertion_237 (fun v h2 n2 hp => ?_)
      obtain ⟨rfl, rfl, rfl⟩ := hp
      refine x_iconst dJ1_fixAfterInsertion_240 ?_
      refine g_ct2 (jc_setColorN) fJ1_setColor q937 (by decide) (Nat.le_of_ble_eq_true rfl) (by omega) (by omega) dJ1_fixAfterInsertion_241 (fun h2 n2 hp => ?_)
      obtain ⟨rfl, rfl⟩ := hp
      refine x_aload_n dJ1_fixAfterInsertion_244 rfl ?_
      refine x_aload_n dJ1_fixAfterInsertion_245 rfl ?_
      refine g_cs1 (jc_parentOf hKx.1 hx4) fJ1_parentOf q925 (by decide) (Nat.le_of_ble_eq_true rfl) (by omega) (by omega) dJ1_fixAfterInsertion_246 (fun v h2 n2 hp => ?_)
      obtain ⟨rfl, rfl, rfl⟩ := hp
      refine g_cs1 (jc_parentOf hKp.1 hg) fJ1_parentOf q925 (by decide) (Nat.le_of_ble_eq_true rfl) (by omega) (by omega) dJ1_fixAfterInsertion_249 (fun v h2 n2 hp => ?_)
      obtain ⟨rfl, rfl, rfl⟩ := hp
      refine g_cw1 (ci := 16) (jc_rotLN) fJ1_rotateLeft q940 rfl (by decide) (by first | assumption | grind) (by decide) (Nat.le_of_ble_eq_true rfl) (by omega) (by omega) dJ1_fixAfterInsertion_252 (fun h2 n2 hp => ?_)
      obtain ⟨rfl, rfl⟩ := hp
      refine x_goto (t := 5) dJ1_fixAfterInsertion_255 (by decide) ?_
      refine fix_out hE2 ht (hF.tr (Fx.col hp)) ?_ hx (Or.inr ⟨p, hx4, by simp [rr_u2]⟩)
      intro e he
      have := hcol e he
      simp only [rr_u2]; grind
    · skip
      refine x_aload_n dJ1_fixAfterInsertion_215 rfl ?_
      refine g_cs1 (jc_parentOf hKx.1 hx4) fJ1_parentOf q925 (by decide) (Nat.le_of_ble_eq_true rfl) (by omega) (by omega) dJ1_fixAfterInsertion_216 (fun v h2 n2 hp => ?_)
      obtain ⟨rfl, rfl, rfl⟩ := hp
      refine x_astore_n dJ1_fixAfterInsertion_219 (by decide) ?_
      refine x_aload_n dJ1_fixAfterInsertion_220 rfl ?_
      refine x_aload_n dJ1_fixAfterInsertion_221 rfl ?_
      refine g_cw1 (ci := 16) (jc_rotateRight hE2 ht hp c_212.symm) fJ1_rotateRight q944 rfl (by decide) (by first | assumption | grind) (by decide) (Nat.le_of_ble_eq_true rfl) (by omega) (by omega) dJ1_fixAfterInsertion_222 (fun h2 n2 hp => ?_)
      obtain ⟨rfl, rfl⟩ := hp
      have hxl : R1 p 2 = some x := c_212.symm
      obtain ⟨lo2, hi2, ht2⟩ := rR_tr ht hML hp hxl
      have hF2 : Fx M L I R I1 (rR R1 M p x) := hF.tr (Fx.rr ht hML hp hxl)
      have e1 : rR R1 M p x p 4 = some x := by simp [rR, spa, hpM]
      have e2 : rR R1 M p x x 4 = none := by simp [rR, spa, hxM, hxp.symm, hg]
      refine x_aload_n dJ1_fixAfterInsertion_225 rfl ?_
      refine g_cs1 (jc_parentOf hKp.1 e1) fJ1_parentOf q925 (by decide) (Nat.le_of_ble_eq_true rfl) (by omega) (by omega) dJ1_fixAfterInsertion_226 (fun v h2 n2 hp => ?_)
      obtain ⟨rfl, rfl, rfl⟩ := hp
      refine x_iconst dJ1_fixAfterInsertion_229 ?_
      refine g_ct2 (jc_setColor hKx.1 hKx.2 (Or.inr rfl)) fJ1_setColor q937 (by decide) (Nat.le_of_ble_eq_true rfl) (by omega) (by omega) dJ1_fixAfterInsertion_230 (fun h2 n2 hp => ?_)
      obtain ⟨rfl, rfl⟩ := hp
      refine x_aload_n dJ1_fixAfterInsertion_233 rfl ?_
      refine g_cs1 (jc_parentOf hKp.1 e1) fJ1_parentOf q925 (by decide) (Nat.le_of_ble_eq_true rfl) (by omega) (by omega) dJ1_fixAfterInsertion_234 (fun v h2 n2 hp => ?_)
      obtain ⟨rfl, rfl, rfl⟩ := hp
      refine g_cs1 (jc_parentOf hKx.1 e2) fJ1_parentOf q925 (by decide) (Nat.le_of_ble_eq_true rfl) (by omega) (by omega) dJ1_fixAfterInsertion_237 (fun v h2 n2 hp => ?_)
      obtain ⟨rfl, rfl, rfl⟩ := hp
      refine x_iconst dJ1_fixAfterInsertion_240 ?_
      refine g_ct2 (jc_setColorN) fJ1_setColor q937 (by decide) (Nat.le_of_ble_eq_true rfl) (by omega) (by omega) dJ1_fixAfterInsertion_241 (fun h2 n2 hp => ?_)
      obtain ⟨rfl, rfl⟩ := hp
      refine x_aload_n dJ1_fixAfterInsertion_244 rfl ?_
      refine x_aload_n dJ1_fixAfterInsertion_245 rfl ?_
      refine g_cs1 (jc_parentOf hKp.1 e1) fJ1_parentOf q925 (by decide) (Nat.le_of_ble_eq_true rfl) (by omega) (by omega) dJ1_fixAfterInsertion_246 (fun v h2 n2 hp => ?_)
      obtain ⟨rfl, rfl, rfl⟩ := hp
      refine g_cs1 (jc_parentOf hKx.1 e2) fJ1_parentOf q925 (by decide) (Nat.le_of_ble_eq_true rfl) (by omega) (by omega) dJ1_fixAfterInsertion_249 (fun v h2 n2 hp => ?_)
      obtain ⟨rfl, rfl, rfl⟩ := hp
      refine g_cw1 (ci := 16) (jc_rotLN) fJ1_rotateLeft q940 rfl (by decide) (by first | assumption | grind) (by decide) (Nat.le_of_ble_eq_true rfl) (by omega) (by omega) dJ1_fixAfterInsertion_252 (fun h2 n2 hp => ?_)
      obtain ⟨rfl, rfl⟩ := hp
      refine x_goto (t := 5) dJ1_fixAfterInsertion_255 (by decide) ?_
      refine fix_out hE2 ht2 (hF2.tr (Fx.col hx)) ?_ hp (Or.inr ⟨x, e1, by simp [rr_u2]⟩)
      intro e he
      have := hcol e he
      simp only [rr_u2]; grind
  · skip
    cases c_41
end TM
