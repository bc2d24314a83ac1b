/-! TREES 5: rotateRight, small ones -/
set_option maxRecDepth 100000
section TM
variable {G : rr_G} {nx : Nat} {K N K2 N2 : Nat → Nat} {I I2 : Nat → Int → Int} {R R2 : Nat → Int → Option Nat} {κ k k2 M : Nat} {z z2 : Int} {L : List Nat} {c : Nat → Int}
theorem jc_rotateRight {p l : Nat} {ps lo hi : Nat → Nat} (hE : En K M L) (ht : Trr L ps lo hi (fun x => R x 2) (fun x => R x 3) (fun x => R x 4) (R M 3)) (hp : p ∈ L) (hl : R p 2 = some l) : gW G yJ1_rotateRight cJ1_rotateRight 3 (none) 0 0 0 [vR (some M), vR (some p)] (K, N, I, R) nx (gEw (K, N, I, rR R M p l) nx) := by
  obtain ⟨hM, hM3, hE⟩ := hE
  have hlc := ht.lc hp hl
  have hrc := fun r => ht.rc (r := r) hlc.1
  have hpc := fun q => ht.pc (q := q) hp
  try dsimp only at hrc hlc hpc
  have hKp := hE p hp
  have hKl := hE l hlc.1
  have hMp : M ≠ p := by intro e; rw [e] at hM; omega
  have hMl : M ≠ l := by intro e; rw [e] at hM; omega
  have hpl := hlc.2.2.2.2.1
  refine gW.of (by decide) rfl (Nat.le_of_ble_eq_true rfl) ?_
  refine x_ls (ls2 := [some (vR (some M)), some (vR (some p)), none]) rfl ?_
  refine x_aload_n dJ1_rotateRight_0 rfl ?_
  refine x_ifnull_n dJ1_rotateRight_1 ?_
  refine x_aload_n dJ1_rotateRight_4 rfl ?_
  refine g_getR 2 (r := some l) (ci := 17) (kf := 2) rfl (by decide) (by decide) rfl rfl q898 rfl (by first | assumption | omega) (hl) dJ1_rotateRight_5 ?_
  refine x_astore_n dJ1_rotateRight_8 (by decide) ?_
  refine x_aload_n dJ1_rotateRight_9 rfl ?_
  refine x_aload_n dJ1_rotateRight_10 rfl ?_
  refine g_getR 3 (r := (R l 3)) (ci := 17) (kf := 3) rfl (by decide) (by decide) rfl rfl q899 rfl (by first | assumption | omega) (rfl) dJ1_rotateRight_11 ?_
  refine g_putR 2 (ci := 17) (kf := 2) rfl (by decide) (by decide) rfl rfl q898 rfl (by first | assumption | omega) (by first | assumption | omega) (Or.inl rfl) dJ1_rotateRight_14 ?_
  refine x_aload_n dJ1_rotateRight_17 rfl ?_
  refine g_getR 3 (r := (R l 3)) (ci := 17) (kf := 3) rfl (by decide) (by decide) rfl rfl q899 rfl (by first | assumption | omega) (by simp [rr_u2, hpl.symm]) dJ1_rotateRight_18 ?_
  refine x_ifnull (t := 32) dJ1_rotateRight_21 (by decide) (fun c_21 => ?_) (fun x_21 c_21 => ?_)
  · skip
    refine x_aload_n dJ1_rotateRight_32 rfl ?_
    refine x_aload_n dJ1_rotateRight_33 rfl ?_
    refine g_getR 4 (r := (R p 4)) (ci := 17) (kf := 4) rfl (by decide) (by decide) rfl rfl q901 rfl (by first | assumption | omega) (by grind [rr_u2]) dJ1_rotateRight_34 ?_
    refine g_putR 4 (ci := 17) (kf := 4) rfl (by decide) (by decide) rfl rfl q901 rfl (by first | assumption | omega) (by first | assumption | omega) (Or.inl rfl) dJ1_rotateRight_37 ?_
    refine x_aload_n dJ1_rotateRight_40 rfl ?_
    refine g_getR 4 (r := (R p 4)) (ci := 17) (kf := 4) rfl (by decide) (by decide) rfl rfl q901 rfl (by first | assumption | omega) (by grind [rr_u2]) dJ1_rotateRight_41 ?_
    refine x_ifnonnull (t := 55) dJ1_rotateRight_44 (by decide) (fun x_44 c_44 => ?_) (fun c_44 => ?_)
    · skip
      have hq := hpc x_44 c_44
      have hKq := hE x_44 hq.1
      have hMq : M ≠ x_44 := by intro e; rw [e] at hM; omega
      have hql : x_44 ≠ l := by intro e; rw [e] at c_44; exact hlc.2.2.2.2.2.2.2.2.2 c_44
      refine x_aload_n dJ1_rotateRight_55 rfl ?_
      refine g_getR 4 (r := some x_44) (ci := 17) (kf := 4) rfl (by decide) (by decide) rfl rfl q901 rfl (by first | assumption | omega) (by grind [rr_u2]) dJ1_rotateRight_56 ?_
      refine g_getR 3 (r := (R x_44 3)) (ci := 17) (kf := 3) rfl (by decide) (by decide) rfl rfl q899 rfl (by first | assumption | omega) (by grind [rr_u2]) dJ1_rotateRight_59 ?_
      refine x_aload_n dJ1_rotateRight_62 rfl ?_
      refine x_acmp_ne (t := 77) (by intro x hx; have := (ht.2.2.2.2.2.2.1 x_44 x hq.1 hx).1; have := hE x this; show K x ≠ 0 ∧ _; omega) (by intro x hx; cases hx; show K p ≠ 0 ∧ _; omega) dJ1_rotateRight_63 (by decide) (fun c_63 => ?_) (fun c_63 => ?_)
      · skip
        refine x_aload_n dJ1_rotateRight_77 rfl ?_
        refine g_getR 4 (r := some x_44) (ci := 17) (kf := 4) rfl (by decide) (by decide) rfl rfl q901 rfl (by first | assumption | omega) (by grind [rr_u2]) dJ1_rotateRight_78 ?_
        refine x_aload_n dJ1_rotateRight_81 rfl ?_
        refine g_putR 2 (ci := 17) (kf := 2) rfl (by decide) (by decide) rfl rfl q898 rfl (by first | assumption | omega) (by first | assumption | omega) (Or.inl rfl) dJ1_rotateRight_82 ?_
        refine x_aload_n dJ1_rotateRight_85 rfl ?_
        refine x_aload_n dJ1_rotateRight_86 rfl ?_
        refine g_putR 3 (ci := 17) (kf := 3) rfl (by decide) (by decide) rfl rfl q899 rfl (by first | assumption | omega) (by first | assumption | omega) (Or.inl rfl) dJ1_rotateRight_87 ?_
        refine x_aload_n dJ1_rotateRight_90 rfl ?_
        refine x_aload_n dJ1_rotateRight_91 rfl ?_
        refine g_putR 4 (ci := 17) (kf := 4) rfl (by decide) (by decide) rfl rfl q901 rfl (by first | assumption | omega) (by first | assumption | omega) (Or.inl rfl) dJ1_rotateRight_92 ?_
        refine gw_vret rfl dJ1_rotateRight_95 (by omega) (by omega) ?_
        refine ⟨tR ?_, rfl⟩
        funext x k
        clear hlc hpc hE ht
        rcases (show k = 2 ∨ k = 3 ∨ k = 4 ∨ (k ≠ 2 ∧ k ≠ 3 ∧ k ≠ 4) by omega) with rfl | rfl | rfl | ⟨e2, e3, e4⟩ <;> simp only [rr_u2, rR, slf, srt, spa, rro] <;> grind (splits := 30)
      · skip
        refine x_aload_n dJ1_rotateRight_66 rfl ?_
        refine g_getR 4 (r := some x_44) (ci := 17) (kf := 4) rfl (by decide) (by decide) rfl rfl q901 rfl (by first | assumption | omega) (by grind [rr_u2]) dJ1_rotateRight_67 ?_
        refine x_aload_n dJ1_rotateRight_70 rfl ?_
        refine g_putR 3 (ci := 17) (kf := 3) rfl (by decide) (by decide) rfl rfl q899 rfl (by first | assumption | omega) (by first | assumption | omega) (Or.inl rfl) dJ1_rotateRight_71 ?_
        refine x_goto (t := 85) dJ1_rotateRight_74 (by decide) ?_
        refine x_aload_n dJ1_rotateRight_85 rfl ?_
        refine x_aload_n dJ1_rotateRight_86 rfl ?_
        refine g_putR 3 (ci := 17) (kf := 3) rfl (by decide) (by decide) rfl rfl q899 rfl (by first | assumption | omega) (by first | assumption | omega) (Or.inl rfl) dJ1_rotateRight_87 ?_
        refine x_aload_n dJ1_rotateRight_90 rfl ?_
        refine x_aload_n dJ1_rotateRight_91 rfl ?_
        refine g_putR 4 (ci := 17) (kf := 4) rfl (by decide) (by decide) rfl rfl q901 rfl (by first | assumption | omega) (by first | assumption | omega) (Or.inl rfl) dJ1_rotateRight_92 ?_
        refine gw_vret rfl dJ1_rotateRight_95 (by omega) (by omega) ?_
        refine ⟨tR ?_, rfl⟩
        funext x k
        clear hlc hpc hE ht
        rcases (show k = 2 ∨ k = 3 ∨ k = 4 ∨ (k ≠ 2 ∧ k ≠ 3 ∧ k ≠ 4) by omega) with rfl | rfl | rfl | ⟨e2, e3, e4⟩ <;> simp only [rr_u2, rR, slf, srt, spa, rro] <;> grind (splits := 30)
    · skip
      refine x_aload_n dJ1_rotateRight_47 rfl ?_
      refine x_aload_n dJ1_rotateRight_48 rfl ?_
      refine g_putR 3 (ci := 16) (kf := 3) rfl (by decide) (by decide) rfl rfl q277 rfl (by first | assumption | omega) (by first | assumption | omega) (Or.inl rfl) dJ1_rotateRight_49 ?_
      refine x_goto (t := 85) dJ1_rotateRight_52 (by decide) ?_
      refine x_aload_n dJ1_rotateRight_85 rfl ?_
      refine x_aload_n dJ1_rotateRight_86 rfl ?_
      refine g_putR 3 (ci := 17) (kf := 3) rfl (by decide) (by decide) rfl rfl q899 rfl (by first | assumption | omega) (by first | assumption | omega) (Or.inl rfl) dJ1_rotateRight_87 ?_
      refine x_aload_n dJ1_rotateRight_90 rfl ?_
      refine x_aload_n dJ1_rotateRight_91 rfl ?_
      refine g_putR 4 (ci := 17) (kf := 4) rfl (by decide) (by decide) rfl rfl q901 rfl (by first | assumption | omega) (by first | assumption | omega) (Or.inl rfl) dJ1_rotateRight_92 ?_
      refine gw_vret rfl dJ1_rotateRight_95 (by omega) (by omega) ?_
      refine ⟨tR ?_, rfl⟩
      funext x k
      clear hlc hpc hE ht
      rcases (show k = 2 ∨ k = 3 ∨ k = 4 ∨ (k ≠ 2 ∧ k ≠ 3 ∧ k ≠ 4) by omega) with rfl | rfl | rfl | ⟨e2, e3, e4⟩ <;> simp only [rr_u2, rR, slf, srt, spa, rro] <;> grind (splits := 30)
  · skip
    have hr := hrc x_21 c_21
    have hKr := hE x_21 hr.1
    have hMr : M ≠ x_21 := by intro e; rw [e] at hM; omega
    have hrp : x_21 ≠ p := by intro e; rw [e] at hr; exact hr.2.2.2.2.2.2.2.2.2 (by rw [hlc.2.1]) |>.elim
    refine x_aload_n dJ1_rotateRight_24 rfl ?_
    refine g_getR 3 (r := some x_21) (ci := 17) (kf := 3) rfl (by decide) (by decide) rfl rfl q899 rfl (by first | assumption | omega) (by simp [rr_u2, hpl.symm, c_21]) dJ1_rotateRight_25 ?_
    refine x_aload_n dJ1_rotateRight_28 rfl ?_
    refine g_putR 4 (ci := 17) (kf := 4) rfl (by decide) (by decide) rfl rfl q901 rfl (by first | assumption | omega) (by first | assumption | omega) (Or.inl rfl) dJ1_rotateRight_29 ?_
    refine x_aload_n dJ1_rotateRight_32 rfl ?_
    refine x_aload_n dJ1_rotateRight_33 rfl ?_
    refine g_getR 4 (r := (R p 4)) (ci := 17) (kf := 4) rfl (by decide) (by decide) rfl rfl q901 rfl (by first | assumption | omega) (by grind [rr_u2]) dJ1_rotateRight_34 ?_
    refine g_putR 4 (ci := 17) (kf := 4) rfl (by decide) (by decide) rfl rfl q901 rfl (by first | assumption | omega) (by first | assumption | omega) (Or.inl rfl) dJ1_rotateRight_37 ?_
    refine x_aload_n dJ1_rotateRight_40 rfl ?_
    refine g_getR 4 (r := (R p 4)) (ci := 17) (kf := 4) rfl (by decide) (by decide) rfl rfl q901 rfl (by first | assumption | omega) (by grind [rr_u2]) dJ1_rotateRight_41 ?_
    refine x_ifnonnull (t := 55) dJ1_rotateRight_44 (by decide) (fun x_44 c_44 => ?_) (fun c_44 => ?_)
    · skip
      have hq := hpc x_44 c_44
      have hKq := hE x_44 hq.1
      have hMq : M ≠ x_44 := by intro e; rw [e] at hM; omega
      have hql : x_44 ≠ l := by intro e; rw [e] at c_44; exact hlc.2.2.2.2.2.2.2.2.2 c_44
      refine x_aload_n dJ1_rotateRight_55 rfl ?_
      refine g_getR 4 (r := some x_44) (ci := 17) (kf := 4) rfl (by decide) (by decide) rfl rfl q901 rfl (by first | assumption | omega) (by grind [rr_u2]) dJ1_rotateRight_56 ?_
      refine g_getR 3 (r := (R x_44 3)) (ci := 17) (kf := 3) rfl (by decide) (by decide) rfl rfl q899 rfl (by first | assumption | omega) (by grind [rr_u2]) dJ1_rotateRight_59 ?_
      refine x_aload_n dJ1_rotateRight_62 rfl ?_
      refine x_acmp_ne (t := 77) (by intro x hx; have := (ht.2.2.2.2.2.2.1 x_44 x hq.1 hx).1; have := hE x this; show K x ≠ 0 ∧ _; omega) (by intro x hx; cases hx; show K p ≠ 0 ∧ _; omega) dJ1_rotateRight_63 (by decide) (fun c_63 => ?_) (fun c_63 => ?_)
      · skip
        refine x_aload_n dJ1_rotateRight_77 rfl ?_
        refine g_getR 4 (r := some x_44) (ci := 17) (kf := 4) rfl (by decide) (by decide) rfl rfl q901 rfl (by first | assumption | omega) (by grind [rr_u2]) dJ1_rotateRight_78 ?_
        refine x_aload_n dJ1_rotateRight_81 rfl ?_
        refine g_putR 2 (ci := 17) (kf := 2) rfl (by decide) (by decide) rfl rfl q898 rfl (by first | assumption | omega) (by first | assumption | omega) (Or.inl rfl) dJ1_rotateRight_82 ?_
        refine x_aload_n dJ1_rotateRight_85 rfl ?_
        refine x_aload_n dJ1_rotateRight_86 rfl ?_
        refine g_putR 3 (ci := 17) (kf := 3) rfl (by decide) (by decide) rfl rfl q899 rfl (by first | assumption | omega) (by first | assumption | omega) (Or.inl rfl) dJ1_rotateRight_87 ?_
        refine x_aload_n dJ1_rotateRight_90 rfl ?_
        refine x_aload_n dJ1_rotateRight_91 rfl ?_
        refine g_putR 4 (ci := 17) (kf := 4) rfl (by decide) (by decide) rfl rfl q901 rfl (by first | assumption | omega) (by first | assumption | omega) (Or.inl rfl) dJ1_rotateRight_92 ?_
        refine gw_vret rfl dJ1_rotateRight_95 (by omega) (by omega) ?_
        refine ⟨tR ?_, rfl⟩
        funext x k
        clear hlc hpc hE ht
        rcases (show k = 2 ∨ k = 3 ∨ k = 4 ∨ (k ≠ 2 ∧ k ≠ 3 ∧ k ≠ 4) by omega) with rfl | rfl | rfl | ⟨e2, e3, e4⟩ <;> simp only [rr_u2, rR, slf, srt, spa, rro] <;> grind (splits := 30)
      · skip
        refine x_aload_n dJ1_rotateRight_66 rfl ?_
        refine g_getR 4 (r := some x_44) (ci := 17) (kf := 4) rfl (by decide) (by decide) rfl rfl q901 rfl (by first | assumption | omega) (by grind [rr_u2]) dJ1_rotateRight_67 ?_
        refine x_aload_n dJ1_rotateRight_70 rfl ?_
        refine g_putR 3 (ci := 17) (kf := 3) rfl (by decide) (by decide) rfl rfl q899 rfl (by first | assumption | omega) (by first | assumption | omega) (Or.inl rfl) dJ1_rotateRight_71 ?_
        refine x_goto (t := 85) dJ1_rotateRight_74 (by decide) ?_
        refine x_aload_n dJ1_rotateRight_85 rfl ?_
        refine x_aload_n dJ1_rotateRight_86 rfl ?_
        refine g_putR 3 (ci := 17) (kf := 3) rfl (by decide) (by decide) rfl rfl q899 rfl (by first | assumption | omega) (by first | assumption | omega) (Or.inl rfl) dJ1_rotateRight_87 ?_
        refine x_aload_n dJ1_rotateRight_90 rfl ?_
        refine x_aload_n dJ1_rotateRight_91 rfl ?_
        refine g_putR 4 (ci := 17) (kf := 4) rfl (by decide) (by decide) rfl rfl q901 rfl (by first | assumption | omega) (by first | assumption | omega) (Or.inl rfl) dJ1_rotateRight_92 ?_
        refine gw_vret rfl dJ1_rotateRight_95 (by omega) (by omega) ?_
        refine ⟨tR ?_, rfl⟩
        funext x k
        clear hlc hpc hE ht
        rcases (show k = 2 ∨ k = 3 ∨ k = 4 ∨ (k ≠ 2 ∧ k ≠ 3 ∧ k ≠ 4) by omega) with rfl | rfl | rfl | ⟨e2, e3, e4⟩ <;> simp only [rr_u2, rR, slf, srt, spa, rro] <;> grind (splits := 30)
    · skip
      refine x_aload_n dJ1_rotateRight_47 rfl ?_
      refine x_aload_n dJ1_rotateRight_48 rfl ?_
      refine g_putR 3 (ci := 16) (kf := 3) rfl (by decide) (by decide) rfl rfl q277 rfl (by first | assumption | omega) (by first | assumption | omega) (Or.inl rfl) dJ1_rotateRight_49 ?_
      refine x_goto (t := 85) dJ1_rotateRight_52 (by decide) ?_
      refine x_aload_n dJ1_rotateRight_85 rfl ?_
      refine x_aload_n dJ1_rotateRight_86 rfl ?_
      refine g_putR 3 (ci := 17) (kf := 3) rfl (by decide) (by decide) rfl rfl q899 rfl (by first | assumption | omega) (by first | assumption | omega) (Or.inl rfl) dJ1_rotateRight_87 ?_
      refine x_aload_n dJ1_rotateRight_90 rfl ?_
      refine x_aload_n dJ1_rotateRight_91 rfl ?_
      refine g_putR 4 (ci := 17) (kf := 4) rfl (by decide) (by decide) rfl rfl q901 rfl (by first | assumption | omega) (by first | assumption | omega) (Or.inl rfl) dJ1_rotateRight_92 ?_
      refine gw_vret rfl dJ1_rotateRight_95 (by omega) (by omega) ?_
      refine ⟨tR ?_, rfl⟩
      funext x k
      clear hlc hpc hE ht
      rcases (show k = 2 ∨ k = 3 ∨ k = 4 ∨ (k ≠ 2 ∧ k ≠ 3 ∧ k ≠ 4) by omega) with rfl | rfl | rfl | ⟨e2, e3, e4⟩ <;> simp only [rr_u2, rR, slf, srt, spa, rro] <;> grind (splits := 30)
theorem jc_rotLN {h : rr_H} : gW G yJ1_rotateLeft cJ1_rotateLeft 3 (none) 0 0 0 [vR (some M), vR none] h nx (gEw h nx) := by
  refine gW.of (by decide) rfl (Nat.le_of_ble_eq_true rfl) ?_
  refine x_ls (ls2 := [some (vR (some M)), some (vR none), none]) rfl ?_
  refine x_aload_n dJ1_rotateLeft_0 rfl ?_
  refine x_ifnull_y (t := 95) dJ1_rotateLeft_1 (by decide) ?_
  refine gw_vret rfl dJ1_rotateLeft_95 (by omega) (by omega) ?_
  exact ⟨rfl, rfl⟩
theorem jc_rotRN {h : rr_H} : gW G yJ1_rotateRight cJ1_rotateRight 3 (none) 0 0 0 [vR (some M), vR none] h nx (gEw h nx) := by
  refine gW.of (by decide) rfl (Nat.le_of_ble_eq_true rfl) ?_
  refine x_ls (ls2 := [some (vR (some M)), some (vR none), none]) rfl ?_
  refine x_aload_n dJ1_rotateRight_0 rfl ?_
  refine x_ifnull_y (t := 95) dJ1_rotateRight_1 (by decide) ?_
  refine gw_vret rfl dJ1_rotateRight_95 (by omega) (by omega) ?_
  exact ⟨rfl, rfl⟩
theorem jc_parentOf {e : Nat} {r : Option Nat} (hK : K e = 17) (hr : R e 4 = r) : gP G yJ1_parentOf cJ1_parentOf 1 ((some (FieldType.object "java/util/TreeMap$Entry"))) 0 0 0 [vR (some e)] (K, N, I, R) nx (gEq (vR r) (K, N, I, R) nx) := by
  refine gP.of (by decide) rfl (Nat.le_of_ble_eq_true rfl) ?_
  refine x_ls (ls2 := [some (vR (some e))]) rfl ?_
  refine x_aload_n dJ1_parentOf_0 rfl ?_
  refine x_ifnonnull_y (t := 8) dJ1_parentOf_1 (by decide) ?_
  refine x_aload_n dJ1_parentOf_8 rfl ?_
  refine g_getR 4 (r := _) (ci := 17) (kf := 4) rfl (by decide) (by decide) rfl rfl q901 rfl (by first | assumption | grind) rfl dJ1_parentOf_9 ?_
  refine gp_aret rfl (Or.inl ⟨_, rfl⟩) dJ1_parentOf_12 (by omega) (by omega) ?_
  exact ⟨by rw [hr], rfl, rfl⟩
theorem jc_leftOf {e : Nat} {r : Option Nat} (hK : K e = 17) (hr : R e 2 = r) : gP G yJ1_leftOf cJ1_leftOf 1 ((some (FieldType.object "java/util/TreeMap$Entry"))) 0 0 0 [vR (some e)] (K, N, I, R) nx (gEq (vR r) (K, N, I, R) nx) := by
  refine gP.of (by decide) rfl (Nat.le_of_ble_eq_true rfl) ?_
  refine x_ls (ls2 := [some (vR (some e))]) rfl ?_
  refine x_aload_n dJ1_leftOf_0 rfl ?_
  refine x_ifnonnull_y (t := 8) dJ1_leftOf_1 (by decide) ?_
  refine x_aload_n dJ1_leftOf_8 rfl ?_
  refine g_getR 2 (r := _) (ci := 17) (kf := 2) rfl (by decide) (by decide) rfl rfl q898 rfl (by first | assumption | grind) rfl dJ1_leftOf_9 ?_
  refine gp_aret rfl (Or.inl ⟨_, rfl⟩) dJ1_leftOf_12 (by omega) (by omega) ?_
  exact ⟨by rw [hr], rfl, rfl⟩
theorem jc_rightOf {e : Nat} {r : Option Nat} (hK : K e = 17) (hr : R e 3 = r) : gP G yJ1_rightOf cJ1_rightOf 1 ((some (FieldType.object "java/util/TreeMap$Entry"))) 0 0 0 [vR (some e)] (K, N, I, R) nx (gEq (vR r) (K, N, I, R) nx) := by
  refine gP.of (by decide) rfl (Nat.le_of_ble_eq_true rfl) ?_
  refine x_ls (ls2 := [some (vR (some e))]) rfl ?_
  refine x_aload_n dJ1_rightOf_0 rfl ?_
  refine x_ifnonnull_y (t := 8) dJ1_rightOf_1 (by decide) ?_
  refine x_aload_n dJ1_rightOf_8 rfl ?_
  refine g_getR 3 (r := _) (ci := 17) (kf := 3) rfl (by decide) (by decide) rfl rfl q899 rfl (by first | assumption | grind) rfl dJ1_rightOf_9 ?_
  refine gp_aret rfl (Or.inl ⟨_, rfl⟩) dJ1_rightOf_12 (by omega) (by omega) ?_
  exact ⟨by rw [hr], rfl, rfl⟩
theorem jc_parentOfN {h : rr_H} : gP G yJ1_parentOf cJ1_parentOf 1 ((some (FieldType.object "java/util/TreeMap$Entry"))) 0 0 0 [vR none] h nx (gEq (vR none) h nx) := by
  refine gP.of (by decide) rfl (Nat.le_of_ble_eq_true rfl) ?_
  refine x_ls (ls2 := [some (vR none)]) rfl ?_
  refine x_aload_n dJ1_parentOf_0 rfl ?_
  refine x_ifnonnull_n dJ1_parentOf_1 ?_
  refine x_null dJ1_parentOf_4 ?_
  refine x_goto (t := 12) dJ1_parentOf_5 (by decide) ?_
  refine gp_aret rfl (Or.inl ⟨_, rfl⟩) dJ1_parentOf_12 (by omega) (by omega) ?_
  exact ⟨rfl, rfl, rfl⟩
theorem jc_leftOfN {h : rr_H} : gP G yJ1_leftOf cJ1_leftOf 1 ((some (FieldType.object "java/util/TreeMap$Entry"))) 0 0 0 [vR none] h nx (gEq (vR none) h nx) := by
  refine gP.of (by decide) rfl (Nat.le_of_ble_eq_true rfl) ?_
  refine x_ls (ls2 := [some (vR none)]) rfl ?_
  refine x_aload_n dJ1_leftOf_0 rfl ?_
  refine x_ifnonnull_n dJ1_leftOf_1 ?_
  refine x_null dJ1_leftOf_4 ?_
  refine x_goto (t := 12) dJ1_leftOf_5 (by decide) ?_
  refine gp_aret rfl (Or.inl ⟨_, rfl⟩) dJ1_leftOf_12 (by omega) (by omega) ?_
  exact ⟨rfl, rfl, rfl⟩
theorem jc_rightOfN {h : rr_H} : gP G yJ1_rightOf cJ1_rightOf 1 ((some (FieldType.object "java/util/TreeMap$Entry"))) 0 0 0 [vR none] h nx (gEq (vR none) h nx) := by
  refine gP.of (by decide) rfl (Nat.le_of_ble_eq_true rfl) ?_
  refine x_ls (ls2 := [some (vR none)]) rfl ?_
  refine x_aload_n dJ1_rightOf_0 rfl ?_
  refine x_ifnonnull_n dJ1_rightOf_1 ?_
  refine x_null dJ1_rightOf_4 ?_
  refine x_goto (t := 12) dJ1_rightOf_5 (by decide) ?_
  refine gp_aret rfl (Or.inl ⟨_, rfl⟩) dJ1_rightOf_12 (by omega) (by omega) ?_
  exact ⟨rfl, rfl, rfl⟩
theorem jc_colorOfN {h : rr_H} : gP G yJ1_colorOf cJ1_colorOf 1 ((some FieldType.boolean)) 0 0 0 [vR none] h nx (gEq (vI 1) h nx) := by
  refine gP.of (by decide) rfl (Nat.le_of_ble_eq_true rfl) ?_
  refine x_ls (ls2 := [some (vR none)]) rfl ?_
  refine x_aload_n dJ1_colorOf_0 rfl ?_
  refine x_ifnonnull_n dJ1_colorOf_1 ?_
  refine x_iconst dJ1_colorOf_4 ?_
  refine x_goto (t := 12) dJ1_colorOf_5 (by decide) ?_
  refine gp_zret rfl dJ1_colorOf_12 (by first | exact Or.inl rfl | exact Or.inr rfl | exact bi_01 _ | omega) (by omega) (by omega) ?_
  exact ⟨by first | rfl | exact rT2 (by omega) | exact rF2 (by omega), rfl, rfl⟩
theorem jc_colorOf {e : Nat} (hK : K e = 17) (hc : I e 5 = 0 ∨ I e 5 = 1) : gP G yJ1_colorOf cJ1_colorOf 1 ((some FieldType.boolean)) 0 0 0 [vR (some e)] (K, N, I, R) nx (gEq (vI (I e 5)) (K, N, I, R) nx) := by
  refine gP.of (by decide) rfl (Nat.le_of_ble_eq_true rfl) ?_
  refine x_ls (ls2 := [some (vR (some e))]) rfl ?_
  refine x_aload_n dJ1_colorOf_0 rfl ?_
  refine x_ifnonnull_y (t := 8) dJ1_colorOf_1 (by decide) ?_
  refine x_aload_n dJ1_colorOf_8 rfl ?_
  refine g_getI 5 (ci := 17) (kf := 5) rfl (by decide) (by decide) rfl rfl q903 rfl (by first | assumption | grind) dJ1_colorOf_9 ?_
  refine gp_zret rfl dJ1_colorOf_12 (hc) (by omega) (by omega) ?_
  exact ⟨by first | rfl | exact rT2 (by omega) | exact rF2 (by omega), rfl, rfl⟩
theorem jc_setColorN {b : Int} {h : rr_H} : gW G yJ1_setColor cJ1_setColor 2 (none) 0 0 0 [vR none, vI b] h nx (gEw h nx) := by
  refine gW.of (by decide) rfl (Nat.le_of_ble_eq_true rfl) ?_
  refine x_ls (ls2 := [some (vR none), some (vI b)]) rfl ?_
  refine x_aload_n dJ1_setColor_0 rfl ?_
  refine x_ifnull_y (t := 9) dJ1_setColor_1 (by decide) ?_
  refine gw_vret rfl dJ1_setColor_9 (by omega) (by omega) ?_
  exact ⟨rfl, rfl⟩
theorem jc_setColor {b : Int} {e : Nat} (hK : K e = 17) (h3 : 300 ≤ e) (hb : b = 0 ∨ b = 1) : gW G yJ1_setColor cJ1_setColor 2 (none) 0 0 0 [vR (some e), vI b] (K, N, I, R) nx (gEw (K, N, rr_u2 I e 5 b, R) nx) := by
  refine gW.of (by decide) rfl (Nat.le_of_ble_eq_true rfl) ?_
  refine x_ls (ls2 := [some (vR (some e)), some (vI b)]) rfl ?_
  refine x_aload_n dJ1_setColor_0 rfl ?_
  refine x_ifnull_n dJ1_setColor_1 ?_
  refine x_aload_n dJ1_setColor_4 rfl ?_
  refine x_iload_n dJ1_setColor_5 rfl ?_
  refine g_putI 5 (ci := 17) (kf := 5) rfl (by decide) (by decide) rfl rfl q903 rfl (by first | assumption | grind) (by first | assumption | omega) (Or.inl rfl) (rr_nar_z (hb)) dJ1_setColor_6 ?_
  refine gw_vret rfl dJ1_setColor_9 (by omega) (by omega) ?_
  exact ⟨rfl, rfl⟩
theorem Trr.congr {ps lo hi : Nat → Nat} {lf rt pa lf2 rt2 pa2 : Nat → Option Nat} {rot : Option Nat} (h : Trr L ps lo hi lf rt pa rot) (hc : ∀ e, e ∈ L → lf2 e = lf e ∧ rt2 e = rt e ∧ pa2 e = pa e) : Trr L ps lo hi lf2 rt2 pa2 rot := by
  obtain ⟨c1, c2, c3, c4, c5, c6, c7, c8, c9, c10, c11⟩ := h
  refine ⟨c1, c2, c3, ?_, ?_, ?_, ?_, ?_, ?_, c10, ?_⟩
  · intro e he; rw [(hc e he).1]; exact c4 e he
  · intro e l he q; rw [(hc e he).1] at q; have := c5 e l he q; rw [(hc l this.1).2.2]; exact this
  · intro e he; rw [(hc e he).2.1]; exact c6 e he
  · intro e l he q; rw [(hc e he).2.1] at q; have := c7 e l he q; rw [(hc l this.1).2.2]; exact this
  · intro e he; rw [(hc e he).2.2]; exact c8 e he
  · intro e p he q; rw [(hc e he).2.2] at q; have := c9 e p he q; rw [(hc p this.1).1, (hc p this.1).2.1]; exact this
  · intro r q; have := c11 r q; rw [(hc r this.1).2.2]; exact this
theorem rL_tr {p r : Nat} {ps lo hi : Nat → Nat} (ht : Trr L ps lo hi (fun x => R x 2) (fun x => R x 3) (fun x => R x 4) (R M 3)) (hM : M ∉ L) (hp : p ∈ L) (hr : R p 3 = some r) : ∃ lo2 hi2, Trr L ps lo2 hi2 (fun x => rL R M p r x 2) (fun x => rL R M p r x 3) (fun x => rL R M p r x 4) (rL R M p r M 3) := by
  have h := ht.rotL hp hr
  have e : rL R M p r M 3 = rro (fun x => R x 4) p r (R M 3) := by simp [rL]
  rw [← e] at h
  exact ⟨_, _, h.congr (fun x hx => by
    have hxM : x ≠ M := fun q => hM (q ▸ hx)
    simp [rL, hxM])⟩
theorem rR_tr {p l : Nat} {ps lo hi : Nat → Nat} (ht : Trr L ps lo hi (fun x => R x 2) (fun x => R x 3) (fun x => R x 4) (R M 3)) (hM : M ∉ L) (hp : p ∈ L) (hl : R p 2 = some l) : ∃ lo2 hi2, Trr L ps lo2 hi2 (fun x => rR R M p l x 2) (fun x => rR R M p l x 3) (fun x => rR R M p l x 4) (rR R M p l M 3) := by
  have h := ht.rotR hp hl
  have e : rR R M p l M 3 = rro (fun x => R x 4) p l (R M 3) := by simp [rR]
  rw [← e] at h
  exact ⟨_, _, h.congr (fun x hx => by
    have hxM : x ≠ M := fun q => hM (q ▸ hx)
    simp [rR, hxM])⟩
/-- colours of entries, pointers of entries and the root alone are written -/
def Fx (M : Nat) (L : List Nat) (I : Nat → Int → Int) (R : Nat → Int → Option Nat) (I2 : Nat → Int → Int) (R2 : Nat → Int → Option Nat) : Prop := (∀ y, y ∉ L → I2 y = I y) ∧ (∀ y j, j ≠ 5 → I2 y j = I y j) ∧ (∀ y, y ∉ L → y ≠ M → R2 y = R y) ∧ (∀ y j, j ≠ 2 → j ≠ 3 → j ≠ 4 → R2 y j = R y j) ∧ ∀ j, j ≠ 3 → R2 M j = R M j
theorem Fx.rf : Fx M L I R I R := ⟨fun _ _ => rfl, fun _ _ _ => rfl, fun _ _ _ => rfl, fun _ _ _ _ _ => rfl, fun _ _ => rfl⟩
theorem Fx.tr {I3 : Nat → Int → Int} {R3 : Nat → Int → Option Nat} (h : Fx M L I R I2 R2) (h2 : Fx M L I2 R2 I3 R3) : Fx M L I R I3 R3 := ⟨fun y hy => (h2.1 y hy).trans (h.1 y hy), fun y j hj => (h2.2.1 y j hj).trans (h.2.1 y j hj), fun y h3 h4 => (h2.2.2.1 y h3 h4).trans (h.2.2.1 y h3 h4), fun y j h3 h4 h5 => (h2.2.2.2.1 y j h3 h4 h5).trans (h.2.2.2.1 y j h3 h4 h5), fun j hj => (h2.2.2.2.2 j hj).trans (h.2.2.2.2 j hj)⟩
theorem Fx.col {e : Nat} {b : Int} (he : e ∈ L) : Fx M L I R (rr_u2 I e 5 b) R := ⟨fun y hy => by
  funext j
  exact rr_u2_ne _ _ (fun q => hy (q.1 ▸ he)), fun y j hj => rr_u2_ne _ _ (fun q => hj q.2), fun _ _ _ => rfl, fun _ _ _ _ _ => rfl, fun _ _ => rfl⟩
theorem Fx.rl {p r : Nat} {ps lo hi : Nat → Nat} (ht : Trr L ps lo hi (fun x => R x 2) (fun x => R x 3) (fun x => R x 4) (R M 3)) (hM : M ∉ L) (hp : p ∈ L) (hr : R p 3 = some r) : Fx M L I R I (rL R M p r) := by
  have hrc := ht.rc hp hr
  have hlc := fun l => ht.lc (l := l) hrc.1
  have hpc := fun q => ht.pc (q := q) hp
  refine ⟨fun _ _ => rfl, fun _ _ _ => rfl, fun y hy hyM => ?_, fun y j h2 h3 h4 => ?_, fun j hj => ?_⟩
  · funext j
    have hyr : y ≠ r := fun q => hy (q ▸ hrc.1)
    have hyp : y ≠ p := fun q => hy (q ▸ hp)
    have h1 : R p 4 ≠ some y := fun q => hy (hpc y q).1
    have h2 : R r 2 ≠ some y := fun q => hy (hlc y q).1
    simp only [rL, if_neg hyM, rlf, rrt, rpa, if_neg hyr, if_neg hyp]
    simp only [h1, h2, false_and, if_false]
    split
    · simp_all
    · split
      · simp_all
      · split <;> simp_all
  · simp only [rL]
    simp [h2, h3, h4]
  · simp [rL, hj]
theorem Fx.rr {p l : Nat} {ps lo hi : Nat → Nat} (ht : Trr L ps lo hi (fun x => R x 2) (fun x => R x 3) (fun x => R x 4) (R M 3)) (hM : M ∉ L) (hp : p ∈ L) (hl : R p 2 = some l) : Fx M L I R I (rR R M p l) := by
  have hlc := ht.lc hp hl
  have hrc := fun r => ht.rc (r := r) hlc.1
  have hpc := fun q => ht.pc (q := q) hp
  refine ⟨fun _ _ => rfl, fun _ _ _ => rfl, fun y hy hyM => ?_, fun y j h2 h3 h4 => ?_, fun j hj => ?_⟩
  · funext j
    have hyr : y ≠ l := fun q => hy (q ▸ hlc.1)
    have hyp : y ≠ p := fun q => hy (q ▸ hp)
    have h1 : R p 4 ≠ some y := fun q => hy (hpc y q).1
    have h2 : R l 3 ≠ some y := fun q => hy (hrc y q).1
    simp only [rR, if_neg hyM, slf, srt, spa, if_neg hyr, if_neg hyp]
    simp only [h1, h2, false_and, if_false]
    split
    · simp_all
    · split
      · simp_all
      · split <;> simp_all
  · simp only [rR]
    simp [h2, h3, h4]
  · simp [rR, hj]
end TM
