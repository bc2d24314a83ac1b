/-! TREES 4: containsKey, get; rotations, walked -/
set_option maxRecDepth 100000
section TM
variable {G : rr_G} {nx : Nat} {K N K2 N2 : Nat → Nat} {I I2 : Nat → Int → Int} {R R2 : Nat → Int → Option Nat} {κ k k2 M : Nat} {z z2 : Int} {L : List Nat} {c : Nat → Int}
theorem jc_containsKey (hT : Tm K N I R κ M L c) (hk : Key K N I R κ k z) : gP G yJ1_containsKey cJ1_containsKey 2 ((some FieldType.boolean)) 7 0 0 [vR (some M), vR (some k)] (K, N, I, R) nx (gEq (vI (bi (∃ e, e ∈ L ∧ c e = z))) (K, N, I, R) nx) := by
  have hM := hT.1.1
  refine gP.of (by decide) rfl (Nat.le_of_ble_eq_true rfl) ?_
  refine x_ls (ls2 := [some (vR (some M)), some (vR (some k))]) rfl ?_
  refine x_aload_n dJ1_containsKey_0 rfl ?_
  refine x_aload_n dJ1_containsKey_1 rfl ?_
  refine g_cv1 (ci := 16) (jc_getEntry hT hk) fJ1_getEntry q596 rfl (by decide) (by first | assumption | grind) (by decide) (Nat.le_of_ble_eq_true rfl) (by omega) (by omega) dJ1_containsKey_2 (fun v h2 n2 hp => ?_)
  obtain ⟨r, rfl, rfl, rfl, hr⟩ := hp
  refine x_ifnull (t := 12) dJ1_containsKey_5 (by decide) (fun c_5 => ?_) (fun x_5 c_5 => ?_)
  · skip
    subst c_5
    have hno : ¬ ∃ e, e ∈ L ∧ c e = z := by
      rcases hr with ⟨e, -, -, q⟩ | ⟨-, q⟩
      · cases q
      · rintro ⟨e, h1, h2⟩; exact q e h1 h2
    refine x_iconst dJ1_containsKey_12 ?_
    refine gp_zret rfl dJ1_containsKey_13 (by first | exact Or.inl rfl | exact Or.inr rfl | exact bi_01 _ | omega) (by omega) (by omega) ?_
    exact ⟨by first | exact rT2 hyes | exact rF2 hno, rfl, rfl⟩
  · skip
    subst c_5
    have hyes : ∃ e, e ∈ L ∧ c e = z := by
      rcases hr with ⟨e, h1, h2, q⟩ | ⟨q, -⟩
      · exact ⟨e, h1, h2⟩
      · cases q
    refine x_iconst dJ1_containsKey_8 ?_
    refine x_goto (t := 13) dJ1_containsKey_9 (by decide) ?_
    refine gp_zret rfl dJ1_containsKey_13 (by first | exact Or.inl rfl | exact Or.inr rfl | exact bi_01 _ | omega) (by omega) (by omega) ?_
    exact ⟨by first | exact rT2 hyes | exact rF2 hno, rfl, rfl⟩
def GvP (K N : Nat → Nat) (I : Nat → Int → Int) (R : Nat → Int → Option Nat) (nx : Nat) (L : List Nat) (c : Nat → Int) (z : Int) : rr_V → rr_H → Nat → Prop := fun v h2 n2 => ∃ r, v = vR r ∧ h2 = (K, N, I, R) ∧ nx = n2 ∧ ((∃ e, e ∈ L ∧ c e = z ∧ r = R e 1) ∨ (r = none ∧ ∀ e, e ∈ L → c e ≠ z))
theorem jc_get (hT : Tm K N I R κ M L c) (hk : Key K N I R κ k z) : gP G yJ1_get cJ1_get 3 ((some (FieldType.object "java/lang/Object"))) 7 0 0 [vR (some M), vR (some k)] (K, N, I, R) nx (GvP K N I R nx L c z) := by
  have hM := hT.1.1
  refine gP.of (by decide) rfl (Nat.le_of_ble_eq_true rfl) ?_
  refine x_ls (ls2 := [some (vR (some M)), some (vR (some k)), none]) rfl ?_
  refine x_aload_n dJ1_get_0 rfl ?_
  refine x_aload_n dJ1_get_1 rfl ?_
  refine g_cv1 (ci := 16) (jc_getEntry hT hk) fJ1_getEntry q596 rfl (by decide) (by first | assumption | grind) (by decide) (Nat.le_of_ble_eq_true rfl) (by omega) (by omega) dJ1_get_2 (fun v h2 n2 hp => ?_)
  obtain ⟨r, rfl, rfl, rfl, hr⟩ := hp
  refine x_astore_n dJ1_get_5 (by decide) ?_
  refine x_aload_n dJ1_get_6 rfl ?_
  refine x_ifnonnull (t := 14) dJ1_get_7 (by decide) (fun x_7 c_7 => ?_) (fun c_7 => ?_)
  · skip
    subst c_7
    have hyes : x_7 ∈ L ∧ c x_7 = z := by
      rcases hr with ⟨e, h1, h2, q⟩ | ⟨q, -⟩
      · cases q; exact ⟨h1, h2⟩
      · cases q
    have hK7 := (hT.2.2.1 x_7 hyes.1).1
    refine x_aload_n dJ1_get_14 rfl ?_
    refine g_getR 1 (r := _) (ci := 17) (kf := 1) rfl (by decide) (by decide) rfl rfl q897 rfl (by first | assumption | grind) rfl dJ1_get_15 ?_
    refine gp_aret rfl (Or.inl ⟨_, rfl⟩) dJ1_get_18 (by omega) (by omega) ?_
    first | exact ⟨_, rfl, rfl, rfl, Or.inl ⟨x_7, hyes.1, hyes.2, rfl⟩⟩ | exact ⟨none, rfl, rfl, rfl, Or.inr ⟨rfl, hno⟩⟩
  · skip
    subst c_7
    have hno : ∀ e, e ∈ L → c e ≠ z := by
      rcases hr with ⟨e, -, -, q⟩ | ⟨-, q⟩
      · cases q
      · exact q
    refine x_null dJ1_get_10 ?_
    refine x_goto (t := 18) dJ1_get_11 (by decide) ?_
    refine gp_aret rfl (Or.inl ⟨_, rfl⟩) dJ1_get_18 (by omega) (by omega) ?_
    first | exact ⟨_, rfl, rfl, rfl, Or.inl ⟨x_7, hyes.1, hyes.2, rfl⟩⟩ | exact ⟨none, rfl, rfl, rfl, Or.inr ⟨rfl, hno⟩⟩
def rL (R : Nat → Int → Option Nat) (M p r : Nat) : Nat → Int → Option Nat := fun x k =>
  if x = M then (if k = 3 then rro (fun x => R x 4) p r (R M 3) else R x k)
  else if k = 2 then rlf (fun x => R x 2) (fun x => R x 4) p r x else if k = 3 then rrt (fun x => R x 2) (fun x => R x 3) (fun x => R x 4) p r x else if k = 4 then rpa (fun x => R x 2) (fun x => R x 4) p r x else R x k
def rR (R : Nat → Int → Option Nat) (M p l : Nat) : Nat → Int → Option Nat := fun x k =>
  if x = M then (if k = 3 then rro (fun x => R x 4) p l (R M 3) else R x k)
  else if k = 2 then slf (fun x => R x 2) (fun x => R x 3) (fun x => R x 4) p l x else if k = 3 then srt (fun x => R x 3) (fun x => R x 4) p l x else if k = 4 then spa (fun x => R x 3) (fun x => R x 4) p l x else R x k
/-- the entries, as objects -/
def En (K : Nat → Nat) (M : Nat) (L : List Nat) : Prop := K M = 16 ∧ 300 ≤ M ∧ ∀ e, e ∈ L → K e = 17 ∧ 300 ≤ e
theorem jc_rotateLeft {p r : Nat} {ps lo hi : Nat → Nat} (hE : En K M L) (ht : Trr L ps lo hi (fun x => R x 2) (fun x => R x 3) (fun x => R x 4) (R M 3)) (hp : p ∈ L) (hr : R p 3 = some r) : gW G yJ1_rotateLeft cJ1_rotateLeft 3 (none) 0 0 0 [vR (some M), vR (some p)] (K, N, I, R) nx (gEw (K, N, I, rL R M p r) nx) := by
  obtain ⟨hM, hM3, hE⟩ := hE
  have hrc := ht.rc hp hr
  have hlc := fun l => ht.lc (l := l) hrc.1
  have hpc := fun q => ht.pc (q := q) hp
  try dsimp only at hrc hlc hpc
  have hKp := hE p hp
  have hKr := hE r hrc.1
  have hMp : M ≠ p := by intro e; rw [e] at hM; omega
  have hMr : M ≠ r := by intro e; rw [e] at hM; omega
  have hpr := hrc.2.2.2.2.1
  refine gW.of (by decide) rfl (Nat.le_of_ble_eq_true rfl) ?_
  refine x_ls (ls2 := [some (vR (some M)), some (vR (some p)), none]) rfl ?_
  refine x_aload_n dJ1_rotateLeft_0 rfl ?_
  refine x_ifnull_n dJ1_rotateLeft_1 ?_
  refine x_aload_n dJ1_rotateLeft_4 rfl ?_
  refine g_getR 3 (r := some r) (ci := 17) (kf := 3) rfl (by decide) (by decide) rfl rfl q899 rfl (by first | assumption | omega) (hr) dJ1_rotateLeft_5 ?_
  refine x_astore_n dJ1_rotateLeft_8 (by decide) ?_
  refine x_aload_n dJ1_rotateLeft_9 rfl ?_
  refine x_aload_n dJ1_rotateLeft_10 rfl ?_
  refine g_getR 2 (r := (R r 2)) (ci := 17) (kf := 2) rfl (by decide) (by decide) rfl rfl q898 rfl (by first | assumption | omega) (rfl) dJ1_rotateLeft_11 ?_
  refine g_putR 3 (ci := 17) (kf := 3) rfl (by decide) (by decide) rfl rfl q899 rfl (by first | assumption | omega) (by first | assumption | omega) (Or.inl rfl) dJ1_rotateLeft_14 ?_
  refine x_aload_n dJ1_rotateLeft_17 rfl ?_
  refine g_getR 2 (r := (R r 2)) (ci := 17) (kf := 2) rfl (by decide) (by decide) rfl rfl q898 rfl (by first | assumption | omega) (by simp [rr_u2, hpr.symm]) dJ1_rotateLeft_18 ?_
  refine x_ifnull (t := 32) dJ1_rotateLeft_21 (by decide) (fun c_21 => ?_) (fun x_21 c_21 => ?_)
  · skip
    refine x_aload_n dJ1_rotateLeft_32 rfl ?_
    refine x_aload_n dJ1_rotateLeft_33 rfl ?_
    refine g_getR 4 (r := (R p 4)) (ci := 17) (kf := 4) rfl (by decide) (by decide) rfl rfl q901 rfl (by first | assumption | omega) (by grind [rr_u2]) dJ1_rotateLeft_34 ?_
    refine g_putR 4 (ci := 17) (kf := 4) rfl (by decide) (by decide) rfl rfl q901 rfl (by first | assumption | omega) (by first | assumption | omega) (Or.inl rfl) dJ1_rotateLeft_37 ?_
    refine x_aload_n dJ1_rotateLeft_40 rfl ?_
    refine g_getR 4 (r := (R p 4)) (ci := 17) (kf := 4) rfl (by decide) (by decide) rfl rfl q901 rfl (by first | assumption | omega) (by grind [rr_u2]) dJ1_rotateLeft_41 ?_
    refine x_ifnonnull (t := 55) dJ1_rotateLeft_44 (by decide) (fun x_44 c_44 => ?_) (fun c_44 => ?_)
    · skip
      have hq := hpc x_44 c_44
      have hKq := hE x_44 hq.1
      have hMq : M ≠ x_44 := by intro e; rw [e] at hM; omega
      have hqr : x_44 ≠ r := by intro e; rw [e] at c_44; exact hrc.2.2.2.2.2.2.2.2.2 c_44
      refine x_aload_n dJ1_rotateLeft_55 rfl ?_
      refine g_getR 4 (r := some x_44) (ci := 17) (kf := 4) rfl (by decide) (by decide) rfl rfl q901 rfl (by first | assumption | omega) (by grind [rr_u2]) dJ1_rotateLeft_56 ?_
      refine g_getR 2 (r := (R x_44 2)) (ci := 17) (kf := 2) rfl (by decide) (by decide) rfl rfl q898 rfl (by first | assumption | omega) (by grind [rr_u2]) dJ1_rotateLeft_59 ?_
      refine x_aload_n dJ1_rotateLeft_62 rfl ?_
      refine x_acmp_ne (t := 77) (by intro x hx; have := (ht.2.2.2.2.1 x_44 x hq.1 hx).1; have := hE x this; show K x ≠ 0 ∧ _; omega) (by intro x hx; cases hx; show K p ≠ 0 ∧ _; omega) dJ1_rotateLeft_63 (by decide) (fun c_63 => ?_) (fun c_63 => ?_)
      · skip
        refine x_aload_n dJ1_rotateLeft_77 rfl ?_
        refine g_getR 4 (r := some x_44) (ci := 17) (kf := 4) rfl (by decide) (by decide) rfl rfl q901 rfl (by first | assumption | omega) (by grind [rr_u2]) dJ1_rotateLeft_78 ?_
        refine x_aload_n dJ1_rotateLeft_81 rfl ?_
        refine g_putR 3 (ci := 17) (kf := 3) rfl (by decide) (by decide) rfl rfl q899 rfl (by first | assumption | omega) (by first | assumption | omega) (Or.inl rfl) dJ1_rotateLeft_82 ?_
        refine x_aload_n dJ1_rotateLeft_85 rfl ?_
        refine x_aload_n dJ1_rotateLeft_86 rfl ?_
        refine g_putR 2 (ci := 17) (kf := 2) rfl (by decide) (by decide) rfl rfl q898 rfl (by first | assumption | omega) (by first | assumption | omega) (Or.inl rfl) dJ1_rotateLeft_87 ?_
        refine x_aload_n dJ1_rotateLeft_90 rfl ?_
        refine x_aload_n dJ1_rotateLeft_91 rfl ?_
        refine g_putR 4 (ci := 17) (kf := 4) rfl (by decide) (by decide) rfl rfl q901 rfl (by first | assumption | omega) (by first | assumption | omega) (Or.inl rfl) dJ1_rotateLeft_92 ?_
        refine gw_vret rfl dJ1_rotateLeft_95 (by omega) (by omega) ?_
        refine ⟨tR ?_, rfl⟩
        funext x k
        clear hlc hpc hE ht
        rcases (show k = 2 ∨ k = 3 ∨ k = 4 ∨ (k ≠ 2 ∧ k ≠ 3 ∧ k ≠ 4) by omega) with rfl | rfl | rfl | ⟨e2, e3, e4⟩ <;> simp only [rr_u2, rL, rlf, rrt, rpa, rro] <;> grind (splits := 30)
      · skip
        refine x_aload_n dJ1_rotateLeft_66 rfl ?_
        refine g_getR 4 (r := some x_44) (ci := 17) (kf := 4) rfl (by decide) (by decide) rfl rfl q901 rfl (by first | assumption | omega) (by grind [rr_u2]) dJ1_rotateLeft_67 ?_
        refine x_aload_n dJ1_rotateLeft_70 rfl ?_
        refine g_putR 2 (ci := 17) (kf := 2) rfl (by decide) (by decide) rfl rfl q898 rfl (by first | assumption | omega) (by first | assumption | omega) (Or.inl rfl) dJ1_rotateLeft_71 ?_
        refine x_goto (t := 85) dJ1_rotateLeft_74 (by decide) ?_
        refine x_aload_n dJ1_rotateLeft_85 rfl ?_
        refine x_aload_n dJ1_rotateLeft_86 rfl ?_
        refine g_putR 2 (ci := 17) (kf := 2) rfl (by decide) (by decide) rfl rfl q898 rfl (by first | assumption | omega) (by first | assumption | omega) (Or.inl rfl) dJ1_rotateLeft_87 ?_
        refine x_aload_n dJ1_rotateLeft_90 rfl ?_
        refine x_aload_n dJ1_rotateLeft_91 rfl ?_
        refine g_putR 4 (ci := 17) (kf := 4) rfl (by decide) (by decide) rfl rfl q901 rfl (by first | assumption | omega) (by first | assumption | omega) (Or.inl rfl) dJ1_rotateLeft_92 ?_
        refine gw_vret rfl dJ1_rotateLeft_95 (by omega) (by omega) ?_
        refine ⟨tR ?_, rfl⟩
        funext x k
        clear hlc hpc hE ht
        rcases (show k = 2 ∨ k = 3 ∨ k = 4 ∨ (k ≠ 2 ∧ k ≠ 3 ∧ k ≠ 4) by omega) with rfl | rfl | rfl | ⟨e2, e3, e4⟩ <;> simp only [rr_u2, rL, rlf, rrt, rpa, rro] <;> grind (splits := 30)
    · skip
      refine x_aload_n dJ1_rotateLeft_47 rfl ?_
      refine x_aload_n dJ1_rotateLeft_48 rfl ?_
      refine g_putR 3 (ci := 16) (kf := 3) rfl (by decide) (by decide) rfl rfl q277 rfl (by first | assumption | omega) (by first | assumption | omega) (Or.inl rfl) dJ1_rotateLeft_49 ?_
      refine x_goto (t := 85) dJ1_rotateLeft_52 (by decide) ?_
      refine x_aload_n dJ1_rotateLeft_85 rfl ?_
      refine x_aload_n dJ1_rotateLeft_86 rfl ?_
      refine g_putR 2 (ci := 17) (kf := 2) rfl (by decide) (by decide) rfl rfl q898 rfl (by first | assumption | omega) (by first | assumption | omega) (Or.inl rfl) dJ1_rotateLeft_87 ?_
      refine x_aload_n dJ1_rotateLeft_90 rfl ?_
      refine x_aload_n dJ1_rotateLeft_91 rfl ?_
      refine g_putR 4 (ci := 17) (kf := 4) rfl (by decide) (by decide) rfl rfl q901 rfl (by first | assumption | omega) (by first | assumption | omega) (Or.inl rfl) dJ1_rotateLeft_92 ?_
      refine gw_vret rfl dJ1_rotateLeft_95 (by omega) (by omega) ?_
      refine ⟨tR ?_, rfl⟩
      funext x k
      clear hlc hpc hE ht
      rcases (show k = 2 ∨ k = 3 ∨ k = 4 ∨ (k ≠ 2 ∧ k ≠ 3 ∧ k ≠ 4) by omega) with rfl | rfl | rfl | ⟨e2, e3, e4⟩ <;> simp only [rr_u2, rL, rlf, rrt, rpa, rro] <;> grind (splits := 30)
  · skip
    have hl := hlc x_21 c_21
    have hKl := hE x_21 hl.1
    have hMl : M ≠ x_21 := by intro e; rw [e] at hM; omega
    have hlp : x_21 ≠ p := by intro e; rw [e] at hl; exact hl.2.2.2.2.2.2.2.2.2 (by rw [hrc.2.1]) |>.elim
    refine x_aload_n dJ1_rotateLeft_24 rfl ?_
    refine g_getR 2 (r := some x_21) (ci := 17) (kf := 2) rfl (by decide) (by decide) rfl rfl q898 rfl (by first | assumption | omega) (by simp [rr_u2, hpr.symm, c_21]) dJ1_rotateLeft_25 ?_
    refine x_aload_n dJ1_rotateLeft_28 rfl ?_
    refine g_putR 4 (ci := 17) (kf := 4) rfl (by decide) (by decide) rfl rfl q901 rfl (by first | assumption | omega) (by first | assumption | omega) (Or.inl rfl) dJ1_rotateLeft_29 ?_
    refine x_aload_n dJ1_rotateLeft_32 rfl ?_
    refine x_aload_n dJ1_rotateLeft_33 rfl ?_
    refine g_getR 4 (r := (R p 4)) (ci := 17) (kf := 4) rfl (by decide) (by decide) rfl rfl q901 rfl (by first | assumption | omega) (by grind [rr_u2]) dJ1_rotateLeft_34 ?_
    refine g_putR 4 (ci := 17) (kf := 4) rfl (by decide) (by decide) rfl rfl q901 rfl (by first | assumption | omega) (by first | assumption | omega) (Or.inl rfl) dJ1_rotateLeft_37 ?_
    refine x_aload_n dJ1_rotateLeft_40 rfl ?_
    refine g_getR 4 (r := (R p 4)) (ci := 17) (kf := 4) rfl (by decide) (by decide) rfl rfl q901 rfl (by first | assumption | omega) (by grind [rr_u2]) dJ1_rotateLeft_41 ?_
    refine x_ifnonnull (t := 55) dJ1_rotateLeft_44 (by decide) (fun x_44 c_44 => ?_) (fun c_44 => ?_)
    · skip
      have hq := hpc x_44 c_44
      have hKq := hE x_44 hq.1
      have hMq : M ≠ x_44 := by intro e; rw [e] at hM; omega
      have hqr : x_44 ≠ r := by intro e; rw [e] at c_44; exact hrc.2.2.2.2.2.2.2.2.2 c_44
      refine x_aload_n dJ1_rotateLeft_55 rfl ?_
      refine g_getR 4 (r := some x_44) (ci := 17) (kf := 4) rfl (by decide) (by decide) rfl rfl q901 rfl (by first | assumption | omega) (by grind [rr_u2]) dJ1_rotateLeft_56 ?_
      refine g_getR 2 (r := (R x_44 2)) (ci := 17) (kf := 2) rfl (by decide) (by decide) rfl rfl q898 rfl (by first | assumption | omega) (by grind [rr_u2]) dJ1_rotateLeft_59 ?_
      refine x_aload_n dJ1_rotateLeft_62 rfl ?_
      refine x_acmp_ne (t := 77) (by intro x hx; have := (ht.2.2.2.2.1 x_44 x hq.1 hx).1; have := hE x this; show K x ≠ 0 ∧ _; omega) (by intro x hx; cases hx; show K p ≠ 0 ∧ _; omega) dJ1_rotateLeft_63 (by decide) (fun c_63 => ?_) (fun c_63 => ?_)
      · skip
        refine x_aload_n dJ1_rotateLeft_77 rfl ?_
        refine g_getR 4 (r := some x_44) (ci := 17) (kf := 4) rfl (by decide) (by decide) rfl rfl q901 rfl (by first | assumption | omega) (by grind [rr_u2]) dJ1_rotateLeft_78 ?_
        refine x_aload_n dJ1_rotateLeft_81 rfl ?_
        refine g_putR 3 (ci := 17) (kf := 3) rfl (by decide) (by decide) rfl rfl q899 rfl (by first | assumption | omega) (by first | assumption | omega) (Or.inl rfl) dJ1_rotateLeft_82 ?_
        refine x_aload_n dJ1_rotateLeft_85 rfl ?_
        refine x_aload_n dJ1_rotateLeft_86 rfl ?_
        refine g_putR 2 (ci := 17) (kf := 2) rfl (by decide) (by decide) rfl rfl q898 rfl (by first | assumption | omega) (by first | assumption | omega) (Or.inl rfl) dJ1_rotateLeft_87 ?_
        refine x_aload_n dJ1_rotateLeft_90 rfl ?_
        refine x_aload_n dJ1_rotateLeft_91 rfl ?_
        refine g_putR 4 (ci := 17) (kf := 4) rfl (by decide) (by decide) rfl rfl q901 rfl (by first | assumption | omega) (by first | assumption | omega) (Or.inl rfl) dJ1_rotateLeft_92 ?_
        refine gw_vret rfl dJ1_rotateLeft_95 (by omega) (by omega) ?_
        refine ⟨tR ?_, rfl⟩
        funext x k
        clear hlc hpc hE ht
        rcases (show k = 2 ∨ k = 3 ∨ k = 4 ∨ (k ≠ 2 ∧ k ≠ 3 ∧ k ≠ 4) by omega) with rfl | rfl | rfl | ⟨e2, e3, e4⟩ <;> simp only [rr_u2, rL, rlf, rrt, rpa, rro] <;> grind (splits := 30)
      · skip
        refine x_aload_n dJ1_rotateLeft_66 rfl ?_
        refine g_getR 4 (r := some x_44) (ci := 17) (kf := 4) rfl (by decide) (by decide) rfl rfl q901 rfl (by first | assumption | omega) (by grind [rr_u2]) dJ1_rotateLeft_67 ?_
        refine x_aload_n dJ1_rotateLeft_70 rfl ?_
        refine g_putR 2 (ci := 17) (kf := 2) rfl (by decide) (by decide) rfl rfl q898 rfl (by first | assumption | omega) (by first | assumption | omega) (Or.inl rfl) dJ1_rotateLeft_71 ?_
        refine x_goto (t := 85) dJ1_rotateLeft_74 (by decide) ?_
        refine x_aload_n dJ1_rotateLeft_85 rfl ?_
        refine x_aload_n dJ1_rotateLeft_86 rfl ?_
        refine g_putR 2 (ci := 17) (kf := 2) rfl (by decide) (by decide) rfl rfl q898 rfl (by first | assumption | omega) (by first | assumption | omega) (Or.inl rfl) dJ1_rotateLeft_87 ?_
        refine x_aload_n dJ1_rotateLeft_90 rfl ?_
        refine x_aload_n dJ1_rotateLeft_91 rfl ?_
        refine g_putR 4 (ci := 17) (kf := 4) rfl (by decide) (by decide) rfl rfl q901 rfl (by first | assumption | omega) (by first | assumption | omega) (Or.inl rfl) dJ1_rotateLeft_92 ?_
        refine gw_vret rfl dJ1_rotateLeft_95 (by omega) (by omega) ?_
        refine ⟨tR ?_, rfl⟩
        funext x k
        clear hlc hpc hE ht
        rcases (show k = 2 ∨ k = 3 ∨ k = 4 ∨ (k ≠ 2 ∧ k ≠ 3 ∧ k ≠ 4) by omega) with rfl | rfl | rfl | ⟨e2, e3, e4⟩ <;> simp only [rr_u2, rL, rlf, rrt, rpa, rro] <;> grind (splits := 30)
    · skip
      refine x_aload_n dJ1_rotateLeft_47 rfl ?_
      refine x_aload_n dJ1_rotateLeft_48 rfl ?_
      refine g_putR 3 (ci := 16) (kf := 3) rfl (by decide) (by decide) rfl rfl q277 rfl (by first | assumption | omega) (by first | assumption | omega) (Or.inl rfl) dJ1_rotateLeft_49 ?_
      refine x_goto (t := 85) dJ1_rotateLeft_52 (by decide) ?_
      refine x_aload_n dJ1_rotateLeft_85 rfl ?_
      refine x_aload_n dJ1_rotateLeft_86 rfl ?_
      refine g_putR 2 (ci := 17) (kf := 2) rfl (by decide) (by decide) rfl rfl q898 rfl (by first | assumption | omega) (by first | assumption | omega) (Or.inl rfl) dJ1_rotateLeft_87 ?_
      refine x_aload_n dJ1_rotateLeft_90 rfl ?_
      refine x_aload_n dJ1_rotateLeft_91 rfl ?_
      refine g_putR 4 (ci := 17) (kf := 4) rfl (by decide) (by decide) rfl rfl q901 rfl (by first | assumption | omega) (by first | assumption | omega) (Or.inl rfl) dJ1_rotateLeft_92 ?_
      refine gw_vret rfl dJ1_rotateLeft_95 (by omega) (by omega) ?_
      refine ⟨tR ?_, rfl⟩
      funext x k
      clear hlc hpc hE ht
      rcases (show k = 2 ∨ k = 3 ∨ k = 4 ∨ (k ≠ 2 ∧ k ≠ 3 ∧ k ≠ 4) by omega) with rfl | rfl | rfl | ⟨e2, e3, e4⟩ <;> simp only [rr_u2, rL, rlf, rrt, rpa, rro] <;> grind (splits := 30)
end TM
