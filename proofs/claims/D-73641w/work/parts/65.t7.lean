/-! TREES 7: fixAfterInsertion -/
set_option maxRecDepth 100000
section TM
variable {G : rr_G} {nx : Nat} {K N : Nat → Nat} {I I1 : Nat → Int → Int} {R R1 : Nat → Int → Option Nat} {M : Nat} {L : List Nat} {ps : Nat → Nat}
theorem fix_loop (hE : En K M L) : ∀ q : Nat × (Nat → Int → Int) × (Nat → Int → Option Nat) × (Nat → Nat) × (Nat → Nat), (q.1 ∈ L ∧ Trr L ps q.2.2.2.1 q.2.2.2.2 (fun x => q.2.2.1 x 2) (fun x => q.2.2.1 x 3) (fun x => q.2.2.1 x 4) (q.2.2.1 M 3) ∧ Fx M L I R q.2.1 q.2.2.1 ∧ ∀ e, e ∈ L → q.2.1 e 5 = 0 ∨ q.2.1 e 5 = 1) → gw G yJ1_fixAfterInsertion cJ1_fixAfterInsertion 3 (none) 1 0 0 (FiP K N I R nx M L ps) 5 [some (vR (some M)), some (vR (some q.1)), none] [] (K, N, q.2.1, q.2.2.1) nx 0 0 := by
  refine rr_ind (W := fun q : Nat × (Nat → Int → Int) × (Nat → Int → Option Nat) × (Nat → Nat) × (Nat → Nat) => gw G yJ1_fixAfterInsertion cJ1_fixAfterInsertion 3 (none) 1 0 0 (FiP K N I R nx M L ps) 5 [some (vR (some M)), some (vR (some q.1)), none] [] (K, N, q.2.1, q.2.2.1) nx 0 0) (fun q => L.length - (q.2.2.2.2 q.1 - q.2.2.2.1 q.1)) (fun q => q.1 ∈ L ∧ Trr L ps q.2.2.2.1 q.2.2.2.2 (fun x => q.2.2.1 x 2) (fun x => q.2.2.1 x 3) (fun x => q.2.2.1 x 4) (q.2.2.1 M 3) ∧ Fx M L I R q.2.1 q.2.2.1 ∧ ∀ e, e ∈ L → q.2.1 e 5 = 0 ∨ q.2.1 e 5 = 1) ?_
  rintro ⟨x, I1, R1, lo, hi⟩ ⟨hx, ht, hF, hcol⟩ ih
  simp only at hx ht hF hcol ih
  dsimp only
  have hE2 := hE
  obtain ⟨hM, hM3, hEe⟩ := hE
  have hML : M ∉ L := fun q => by have := (hEe M q).1; omega
  have hKx := hEe x hx
  refine x_aload_n dJ1_fixAfterInsertion_5 rfl ?_
  refine x_ifnull_n dJ1_fixAfterInsertion_6 ?_
  refine x_aload_n dJ1_fixAfterInsertion_9 rfl ?_
  refine x_aload_n dJ1_fixAfterInsertion_10 rfl ?_
  refine g_getR 3 (r := _) (ci := 16) (kf := 3) rfl (by decide) (by decide) rfl rfl q277 rfl (by first | assumption | grind) rfl dJ1_fixAfterInsertion_11 ?_
  refine x_acmp_eq (t := 258) (by intro w hw; cases hw; show K x ≠ 0 ∧ _; omega) (by intro w hw; have := (ht.2.2.2.2.2.2.2.2.2.2 w hw).1; have := hEe w this; show K w ≠ 0 ∧ _; omega) dJ1_fixAfterInsertion_14 (by decide) (fun c_14 => ?_) (fun c_14 => ?_)
  · skip
    exact fix_end hE2 ht hF hcol hx
  · skip
    obtain ⟨p, hx4⟩ : ∃ p, R1 x 4 = some p := by
      cases hq : R1 x 4 with
      | none => exact absurd (ht.2.2.2.2.2.2.2.1 x hx hq).symm c_14
      | some p => exact ⟨p, rfl⟩
    have hpx := ht.pc hx hx4
    have hp := hpx.1
    have hKp := hEe p hp
    have hcp := hcol p hp
    refine x_aload_n dJ1_fixAfterInsertion_17 rfl ?_
    refine g_getR 4 (r := some p) (ci := 17) (kf := 4) rfl (by decide) (by decide) rfl rfl q901 rfl (by first | assumption | grind) (hx4) dJ1_fixAfterInsertion_18 ?_
    refine g_getI 5 (ci := 17) (kf := 5) rfl (by decide) (by decide) rfl rfl q903 rfl (hKp.1) dJ1_fixAfterInsertion_21 ?_
    refine x_if_ne (t := 258) dJ1_fixAfterInsertion_24 (by decide) (by omega) (fun c_24 => ?_) (fun c_24 => ?_)
    · skip
      exact fix_end hE2 ht hF hcol hx
    · skip
      cases hg : R1 p 4 with
      | none => exact fix_0 hE2 ht hF hcol hx hx4 hg
      | some g =>
        have hgx := ht.pc hp hg
        have hgL := hgx.1
        have hKg := hEe g hgL
        have b1 := ht.2.2.1 g hgL
        have b2 := ht.2.2.1 p hp
        have b3 := ht.2.2.1 x hx
        refine x_aload_n dJ1_fixAfterInsertion_27 rfl ?_
        refine g_cs1 (jc_parentOf hKx.1 hx4) fJ1_parentOf q925 (by decide) (Nat.le_of_ble_eq_true rfl) (by omega) (by omega) dJ1_fixAfterInsertion_28 (fun v h2 n2 hp => ?_)
        obtain ⟨rfl, rfl, rfl⟩ := hp
        refine x_aload_n dJ1_fixAfterInsertion_31 rfl ?_
        refine g_cs1 (jc_parentOf hKx.1 hx4) fJ1_parentOf q925 (by decide) (Nat.le_of_ble_eq_true rfl) (by omega) (by omega) dJ1_fixAfterInsertion_32 (fun v h2 n2 hp => ?_)
        obtain ⟨rfl, rfl, rfl⟩ := hp
        refine g_cs1 (jc_parentOf hKp.1 hg) fJ1_parentOf q925 (by decide) (Nat.le_of_ble_eq_true rfl) (by omega) (by omega) dJ1_fixAfterInsertion_35 (fun v h2 n2 hp => ?_)
        obtain ⟨rfl, rfl, rfl⟩ := hp
        refine g_cs1 (jc_leftOf hKg.1 rfl) fJ1_leftOf q928 (by decide) (Nat.le_of_ble_eq_true rfl) (by omega) (by omega) dJ1_fixAfterInsertion_38 (fun v h2 n2 hp => ?_)
        obtain ⟨rfl, rfl, rfl⟩ := hp
        refine x_acmp_ne (t := 151) (by intro w hw; cases hw; show K p ≠ 0 ∧ _; omega) (by intro w hw; have := (ht.lc hgL hw).1; have := hEe w this; show K w ≠ 0 ∧ _; omega) dJ1_fixAfterInsertion_41 (by decide) (fun c_41 => ?_) (fun c_41 => ?_)
        · skip
          refine x_aload_n dJ1_fixAfterInsertion_151 rfl ?_
          refine g_cs1 (jc_parentOf hKx.1 hx4) fJ1_parentOf q925 (by decide) (Nat.le_of_ble_eq_true rfl) (by omega) (by omega) dJ1_fixAfterInsertion_152 (fun v h2 n2 hp => ?_)
          obtain ⟨rfl, rfl, rfl⟩ := hp
          refine g_cs1 (jc_parentOf hKp.1 hg) fJ1_parentOf q925 (by decide) (Nat.le_of_ble_eq_true rfl) (by omega) (by omega) dJ1_fixAfterInsertion_155 (fun v h2 n2 hp => ?_)
          obtain ⟨rfl, rfl, rfl⟩ := hp
          refine g_cs1 (jc_leftOf hKg.1 rfl) fJ1_leftOf q928 (by decide) (Nat.le_of_ble_eq_true rfl) (by omega) (by omega) dJ1_fixAfterInsertion_158 (fun v h2 n2 hp => ?_)
          obtain ⟨rfl, rfl, rfl⟩ := hp
          refine x_astore_n dJ1_fixAfterInsertion_161 (by decide) ?_
          have hgr : R1 g 3 = some p := by
            rcases hgx.2.2 with q | q
            · exact absurd q.1.symm c_41
            · exact q.1
          cases hy : R1 g 2 with
          | none =>
            refine x_aload_n dJ1_fixAfterInsertion_162 rfl ?_
            refine g_cs1 (jc_colorOfN) fJ1_colorOf q934 (by decide) (Nat.le_of_ble_eq_true rfl) (by omega) (by omega) dJ1_fixAfterInsertion_163 (fun v h2 n2 hp => ?_)
            obtain ⟨rfl, rfl, rfl⟩ := hp
            refine x_if_ne (t := 204) dJ1_fixAfterInsertion_166 (by decide) (by omega) (fun c_166 => ?_) (fun c_166 => absurd c_166 (by decide))
            refine x_loc (ls2 := [some (vR (some M)), some (vR (some x)), none]) (by repeat first | exact trivial | refine ⟨Or.inr rfl, ?_⟩ | refine ⟨Or.inl rfl, ?_⟩) ?_
            exact fix_204 hE2 ht hF hcol hx hx4 hg hgr
          | some y0 =>
            have hyc := ht.lc hgL hy
            have hKy := hEe y0 hyc.1
            have hcy := hcol y0 hyc.1
            refine x_aload_n dJ1_fixAfterInsertion_162 rfl ?_
            refine g_cs1 (jc_colorOf hKy.1 hcy) fJ1_colorOf q934 (by decide) (Nat.le_of_ble_eq_true rfl) (by omega) (by omega) dJ1_fixAfterInsertion_163 (fun v h2 n2 hp => ?_)
            obtain ⟨rfl, rfl, rfl⟩ := hp
            refine x_if_ne (t := 204) dJ1_fixAfterInsertion_166 (by decide) (by omega) (fun c_166 => ?_) (fun c_166 => ?_)
            · skip
              refine x_loc (ls2 := [some (vR (some M)), some (vR (some x)), none]) (by repeat first | exact trivial | refine ⟨Or.inr rfl, ?_⟩ | refine ⟨Or.inl rfl, ?_⟩) ?_
              exact fix_204 hE2 ht hF hcol hx hx4 hg hgr
            · skip
              refine x_aload_n dJ1_fixAfterInsertion_169 rfl ?_
              refine g_cs1 (jc_parentOf hKx.1 hx4) fJ1_parentOf q925 (by decide) (Nat.le_of_ble_eq_true rfl) (by omega) (by omega) dJ1_fixAfterInsertion_170 (fun v h2 n2 hp => ?_)
              obtain ⟨rfl, rfl, rfl⟩ := hp
              refine x_iconst dJ1_fixAfterInsertion_173 ?_
              refine g_ct2 (jc_setColor hKp.1 hKp.2 (Or.inr rfl)) fJ1_setColor q937 (by decide) (Nat.le_of_ble_eq_true rfl) (by omega) (by omega) dJ1_fixAfterInsertion_174 (fun h2 n2 hp => ?_)
              obtain ⟨rfl, rfl⟩ := hp
              refine x_aload_n dJ1_fixAfterInsertion_177 rfl ?_
              refine x_iconst dJ1_fixAfterInsertion_178 ?_
              refine g_ct2 (jc_setColor hKy.1 hKy.2 (Or.inr rfl)) fJ1_setColor q937 (by decide) (Nat.le_of_ble_eq_true rfl) (by omega) (by omega) dJ1_fixAfterInsertion_179 (fun h2 n2 hp => ?_)
              obtain ⟨rfl, rfl⟩ := hp
              refine x_aload_n dJ1_fixAfterInsertion_182 rfl ?_
              refine g_cs1 (jc_parentOf hKx.1 hx4) fJ1_parentOf q925 (by decide) (Nat.le_of_ble_eq_true rfl) (by omega) (by omega) dJ1_fixAfterInsertion_183 (fun v h2 n2 hp => ?_)
              obtain ⟨rfl, rfl, rfl⟩ := hp
              refine g_cs1 (jc_parentOf hKp.1 hg) fJ1_parentOf q925 (by decide) (Nat.le_of_ble_eq_true rfl) (by omega) (by omega) dJ1_fixAfterInsertion_186 (fun v h2 n2 hp => ?_)
              obtain ⟨rfl, rfl, rfl⟩ := hp
              refine x_iconst dJ1_fixAfterInsertion_189 ?_
              refine g_ct2 (jc_setColor hKg.1 hKg.2 (Or.inl rfl)) fJ1_setColor q937 (by decide) (Nat.le_of_ble_eq_true rfl) (by omega) (by omega) dJ1_fixAfterInsertion_190 (fun h2 n2 hp => ?_)
              obtain ⟨rfl, rfl⟩ := hp
              refine x_aload_n dJ1_fixAfterInsertion_193 rfl ?_
              refine g_cs1 (jc_parentOf hKx.1 hx4) fJ1_parentOf q925 (by decide) (Nat.le_of_ble_eq_true rfl) (by omega) (by omega) dJ1_fixAfterInsertion_194 (fun v h2 n2 hp => ?_)
              obtain ⟨rfl, rfl, rfl⟩ := hp
              refine g_cs1 (jc_parentOf hKp.1 hg) fJ1_parentOf q925 (by decide) (Nat.le_of_ble_eq_true rfl) (by omega) (by omega) dJ1_fixAfterInsertion_197 (fun v h2 n2 hp => ?_)
              obtain ⟨rfl, rfl, rfl⟩ := hp
              refine x_astore_n dJ1_fixAfterInsertion_200 (by decide) ?_
              refine x_goto (t := 255) dJ1_fixAfterInsertion_201 (by decide) ?_
              refine x_goto (t := 5) dJ1_fixAfterInsertion_255 (by decide) ?_
              refine x_loc (ls2 := [some (vR (some M)), some (vR (some g)), none]) (by repeat first | exact trivial | refine ⟨Or.inr rfl, ?_⟩ | refine ⟨Or.inl rfl, ?_⟩) ?_
              refine ih (g, rr_u2 (rr_u2 (rr_u2 I1 p 5 1) y0 5 1) g 5 0, R1, lo, hi) ⟨hgL, ht, hF.tr ((Fx.col hp).tr ((Fx.col hyc.1).tr (Fx.col hgL))), fun e he => ?_⟩ ?_
              · have := hcol e he
                simp only [rr_u2]; grind
              · simp only
                rcases hpx.2.2 with q | q <;> rcases hgx.2.2 with q2 | q2 <;> omega
        · skip
          refine x_aload_n dJ1_fixAfterInsertion_44 rfl ?_
          refine g_cs1 (jc_parentOf hKx.1 hx4) fJ1_parentOf q925 (by decide) (Nat.le_of_ble_eq_true rfl) (by omega) (by omega) dJ1_fixAfterInsertion_45 (fun v h2 n2 hp => ?_)
          obtain ⟨rfl, rfl, rfl⟩ := hp
          refine g_cs1 (jc_parentOf hKp.1 hg) fJ1_parentOf q925 (by decide) (Nat.le_of_ble_eq_true rfl) (by omega) (by omega) dJ1_fixAfterInsertion_48 (fun v h2 n2 hp => ?_)
          obtain ⟨rfl, rfl, rfl⟩ := hp
          refine g_cs1 (jc_rightOf hKg.1 rfl) fJ1_rightOf q931 (by decide) (Nat.le_of_ble_eq_true rfl) (by omega) (by omega) dJ1_fixAfterInsertion_51 (fun v h2 n2 hp => ?_)
          obtain ⟨rfl, rfl, rfl⟩ := hp
          refine x_astore_n dJ1_fixAfterInsertion_54 (by decide) ?_
          cases hy : R1 g 3 with
          | none =>
            refine x_aload_n dJ1_fixAfterInsertion_55 rfl ?_
            refine g_cs1 (jc_colorOfN) fJ1_colorOf q934 (by decide) (Nat.le_of_ble_eq_true rfl) (by omega) (by omega) dJ1_fixAfterInsertion_56 (fun v h2 n2 hp => ?_)
            obtain ⟨rfl, rfl, rfl⟩ := hp
            refine x_if_ne (t := 97) dJ1_fixAfterInsertion_59 (by decide) (by omega) (fun c_59 => ?_) (fun c_59 => absurd c_59 (by decide))
            refine x_loc (ls2 := [some (vR (some M)), some (vR (some x)), none]) (by repeat first | exact trivial | refine ⟨Or.inr rfl, ?_⟩ | refine ⟨Or.inl rfl, ?_⟩) ?_
            exact fix_97 hE2 ht hF hcol hx hx4 hg c_41.symm
          | some y0 =>
            have hyc := ht.rc hgL hy
            have hKy := hEe y0 hyc.1
            have hcy := hcol y0 hyc.1
            refine x_aload_n dJ1_fixAfterInsertion_55 rfl ?_
            refine g_cs1 (jc_colorOf hKy.1 hcy) fJ1_colorOf q934 (by decide) (Nat.le_of_ble_eq_true rfl) (by omega) (by omega) dJ1_fixAfterInsertion_56 (fun v h2 n2 hp => ?_)
            obtain ⟨rfl, rfl, rfl⟩ := hp
            refine x_if_ne (t := 97) dJ1_fixAfterInsertion_59 (by decide) (by omega) (fun c_59 => ?_) (fun c_59 => ?_)
            · skip
              refine x_loc (ls2 := [some (vR (some M)), some (vR (some x)), none]) (by repeat first | exact trivial | refine ⟨Or.inr rfl, ?_⟩ | refine ⟨Or.inl rfl, ?_⟩) ?_
              exact fix_97 hE2 ht hF hcol hx hx4 hg c_41.symm
            · skip
              refine x_aload_n dJ1_fixAfterInsertion_62 rfl ?_
              refine g_cs1 (jc_parentOf hKx.1 hx4) fJ1_parentOf q925 (by decide) (Nat.le_of_ble_eq_true rfl) (by omega) (by omega) dJ1_fixAfterInsertion_63 (fun v h2 n2 hp => ?_)
              obtain ⟨rfl, rfl, rfl⟩ := hp
              refine x_iconst dJ1_fixAfterInsertion_66 ?_
              refine g_ct2 (jc_setColor hKp.1 hKp.2 (Or.inr rfl)) fJ1_setColor q937 (by decide) (Nat.le_of_ble_eq_true rfl) (by omega) (by omega) dJ1_fixAfterInsertion_67 (fun h2 n2 hp => ?_)
              obtain ⟨rfl, rfl⟩ := hp
              refine x_aload_n dJ1_fixAfterInsertion_70 rfl ?_
              refine x_iconst dJ1_fixAfterInsertion_71 ?_
              refine g_ct2 (jc_setColor hKy.1 hKy.2 (Or.inr rfl)) fJ1_setColor q937 (by decide) (Nat.le_of_ble_eq_true rfl) (by omega) (by omega) dJ1_fixAfterInsertion_72 (fun h2 n2 hp => ?_)
              obtain ⟨rfl, rfl⟩ := hp
              refine x_aload_n dJ1_fixAfterInsertion_75 rfl ?_
              refine g_cs1 (jc_parentOf hKx.1 hx4) fJ1_parentOf q925 (by decide) (Nat.le_of_ble_eq_true rfl) (by omega) (by omega) dJ1_fixAfterInsertion_76 (fun v h2 n2 hp => ?_)
              obtain ⟨rfl, rfl, rfl⟩ := hp
              refine g_cs1 (jc_parentOf hKp.1 hg) fJ1_parentOf q925 (by decide) (Nat.le_of_ble_eq_true rfl) (by omega) (by omega) dJ1_fixAfterInsertion_79 (fun v h2 n2 hp => ?_)
              obtain ⟨rfl, rfl, rfl⟩ := hp
              refine x_iconst dJ1_fixAfterInsertion_82 ?_
              refine g_ct2 (jc_setColor hKg.1 hKg.2 (Or.inl rfl)) fJ1_setColor q937 (by decide) (Nat.le_of_ble_eq_true rfl) (by omega) (by omega) dJ1_fixAfterInsertion_83 (fun h2 n2 hp => ?_)
              obtain ⟨rfl, rfl⟩ := hp
              refine x_aload_n dJ1_fixAfterInsertion_86 rfl ?_
              refine g_cs1 (jc_parentOf hKx.1 hx4) fJ1_parentOf q925 (by decide) (Nat.le_of_ble_eq_true rfl) (by omega) (by omega) dJ1_fixAfterInsertion_87 (fun v h2 n2 hp => ?_)
              obtain ⟨rfl, rfl, rfl⟩ := hp
              refine g_cs1 (jc_parentOf hKp.1 hg) fJ1_parentOf q925 (by decide) (Nat.le_of_ble_eq_true rfl) (by omega) (by omega) dJ1_fixAfterInsertion_90 (fun v h2 n2 hp => ?_)
              obtain ⟨rfl, rfl, rfl⟩ := hp
              refine x_astore_n dJ1_fixAfterInsertion_93 (by decide) ?_
              refine x_goto (t := 148) dJ1_fixAfterInsertion_94 (by decide) ?_
              refine x_goto (t := 5) dJ1_fixAfterInsertion_148 (by decide) ?_
              refine x_loc (ls2 := [some (vR (some M)), some (vR (some g)), none]) (by repeat first | exact trivial | refine ⟨Or.inr rfl, ?_⟩ | refine ⟨Or.inl rfl, ?_⟩) ?_
              refine ih (g, rr_u2 (rr_u2 (rr_u2 I1 p 5 1) y0 5 1) g 5 0, R1, lo, hi) ⟨hgL, ht, hF.tr ((Fx.col hp).tr ((Fx.col hyc.1).tr (Fx.col hgL))), fun e he => ?_⟩ ?_
              · have := hcol e he
                simp only [rr_u2]; grind
              · simp only
                rcases hpx.2.2 with q | q <;> rcases hgx.2.2 with q2 | q2 <;> omega
theorem jc_fix {x : Nat} {lo hi : Nat → Nat} (hE : En K M L) (ht : Trr L ps lo hi (fun x => R x 2) (fun x => R x 3) (fun x => R x 4) (R M 3)) (hcol : ∀ e, e ∈ L → I e 5 = 0 ∨ I e 5 = 1) (hx : x ∈ L) : gW G yJ1_fixAfterInsertion cJ1_fixAfterInsertion 3 (none) 1 0 0 [vR (some M), vR (some x)] (K, N, I, R) nx (FiP K N I R nx M L ps) := by
  have hKx := hE.2.2 x hx
  refine gW.of (by decide) rfl (Nat.le_of_ble_eq_true rfl) ?_
  refine x_ls (ls2 := [some (vR (some M)), some (vR (some x)), none]) rfl ?_
  refine x_aload_n dJ1_fixAfterInsertion_0 rfl ?_
  refine x_iconst dJ1_fixAfterInsertion_1 ?_
  refine g_putI 5 (ci := 17) (kf := 5) rfl (by decide) (by decide) rfl rfl q903 rfl (hKx.1) (hKx.2) (Or.inl rfl) (rr_nar_z (by first | exact Or.inl rfl | exact Or.inr rfl | omega)) dJ1_fixAfterInsertion_2 ?_
  refine fix_loop hE (x, rr_u2 I x 5 0, R, lo, hi) ⟨hx, ht, Fx.col hx, fun e he => ?_⟩
  have := hcol e he
  simp only [rr_u2]; grind
end TM
