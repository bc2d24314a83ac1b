/-! SETS: TreeMap's and TreeSet's constructors, add, size; pieces -/
set_option maxRecDepth 100000
theorem rr_u2_id {α : Type} (R : Nat → Int → α) {x : Nat} {i : Int} {v : α} (h : R x i = v) : rr_u2 R x i v = R := by
  funext y j
  unfold rr_u2
  split
  · rename_i q; rw [q.1, q.2, h]
  · rfl
section TM
variable {G : rr_G} {nx : Nat} {K N : Nat → Nat} {I : Nat → Int → Int} {R : Nat → Int → Option Nat} {κ k M v : Nat} {z : Int} {L : List Nat} {c : Nat → Int}
theorem jc_aminit {h : rr_H} {x : Nat} : gW G yJ0_init cJ0_init 1 (none) 1 0 0 [vR (some x)] h nx (gEw h nx) := by
  refine gW.of (by decide) rfl (Nat.le_of_ble_eq_true rfl) ?_
  refine x_ls (ls2 := [some (vR (some x))]) rfl ?_
  refine x_aload_n dJ0_init_0 rfl ?_
  refine x_oinit q275 q197 q198 (by decide) (Nat.le_of_ble_eq_true rfl) dJ0_init_1 ?_
  refine gw_vret rfl dJ0_init_4 (by omega) (by omega) ?_
  exact ⟨rfl, rfl⟩
theorem jc_acinit {h : rr_H} {x : Nat} : gW G yJ16_init cJ16_init 1 (none) 1 0 0 [vR (some x)] h nx (gEw h nx) := by
  refine gW.of (by decide) rfl (Nat.le_of_ble_eq_true rfl) ?_
  refine x_ls (ls2 := [some (vR (some x))]) rfl ?_
  refine x_aload_n dJ16_init_0 rfl ?_
  refine x_oinit q853 q197 q198 (by decide) (Nat.le_of_ble_eq_true rfl) dJ16_init_1 ?_
  refine gw_vret rfl dJ16_init_4 (by omega) (by omega) ?_
  exact ⟨rfl, rfl⟩
theorem jc_asinit {h : rr_H} {x : Nat} : gW G yJ17_init cJ17_init 1 (none) 2 0 0 [vR (some x)] h nx (gEw h nx) := by
  refine gW.of (by decide) rfl (Nat.le_of_ble_eq_true rfl) ?_
  refine x_ls (ls2 := [some (vR (some x))]) rfl ?_
  refine x_aload_n dJ17_init_0 rfl ?_
  refine g_ci0 (jc_acinit) fJ16_init q850 (by decide) (Nat.le_of_ble_eq_true rfl) (by omega) (by omega) dJ17_init_1 (fun h2 n2 hp => ?_)
  obtain ⟨rfl, rfl⟩ := hp
  refine gw_vret rfl dJ17_init_4 (by omega) (by omega) ?_
  exact ⟨rfl, rfl⟩
theorem jc_tminit (hM : K M = 16) (hM3 : 300 ≤ M) (h2 : R M 2 = none) (h4 : I M 4 = 0) (h5 : I M 5 = 0) : gW G yJ1_init cJ1_init 1 (none) 2 0 0 [vR (some M)] (K, N, I, R) nx (gEw (K, N, I, R) nx) := by
  refine gW.of (by decide) rfl (Nat.le_of_ble_eq_true rfl) ?_
  refine x_ls (ls2 := [some (vR (some M))]) rfl ?_
  refine x_aload_n dJ1_init_0 rfl ?_
  refine g_ci0 (jc_aminit) fJ0_init q272 (by decide) (Nat.le_of_ble_eq_true rfl) (by omega) (by omega) dJ1_init_1 (fun h2 n2 hp => ?_)
  obtain ⟨rfl, rfl⟩ := hp
  refine x_aload_n dJ1_init_4 rfl ?_
  refine x_iconst dJ1_init_5 ?_
  refine g_putI 4 (ci := 16) (kf := 4) rfl (by decide) (by decide) rfl rfl q278 rfl (by first | assumption | grind) (by first | assumption | omega) (Or.inl rfl) (rr_nar_i _) dJ1_init_6 ?_
  refine x_aload_n dJ1_init_9 rfl ?_
  refine x_iconst dJ1_init_10 ?_
  refine g_putI 5 (ci := 16) (kf := 5) rfl (by decide) (by decide) rfl rfl q279 rfl (by first | assumption | grind) (by first | assumption | omega) (Or.inl rfl) (rr_nar_i _) dJ1_init_11 ?_
  refine x_aload_n dJ1_init_14 rfl ?_
  refine x_null dJ1_init_15 ?_
  refine g_putR 2 (ci := 16) (kf := 2) rfl (by decide) (by decide) rfl rfl q276 rfl (by first | assumption | grind) (by first | assumption | omega) (Or.inr ⟨rfl, rfl, rfl⟩) dJ1_init_16 ?_
  refine gw_vret rfl dJ1_init_19 (by omega) (by omega) ?_
  exact ⟨tIR (by rw [rr_u2_id I h4, rr_u2_id I h5]) (by rw [rr_u2_id R h2]), rfl⟩
theorem jc_tsinit2 {S : Nat} (hS : K S = 18) (hS3 : 300 ≤ S) : gW G yJ18_init_2 cJ18_init_2 2 (none) 3 0 0 [vR (some S), vR (some M)] (K, N, I, R) nx (gEw (K, N, I, rr_u2 R S 0 (some M)) nx) := by
  refine gW.of (by decide) rfl (Nat.le_of_ble_eq_true rfl) ?_
  refine x_ls (ls2 := [some (vR (some S)), some (vR (some M))]) rfl ?_
  refine x_aload_n dJ18_init_2_0 rfl ?_
  refine g_ci0 (jc_asinit) fJ17_init q847 (by decide) (Nat.le_of_ble_eq_true rfl) (by omega) (by omega) dJ18_init_2_1 (fun h2 n2 hp => ?_)
  obtain ⟨rfl, rfl⟩ := hp
  refine x_aload_n dJ18_init_2_4 rfl ?_
  refine x_aload_n dJ18_init_2_5 rfl ?_
  refine g_putR 0 (ci := 18) (kf := 0) rfl (by decide) (by decide) rfl rfl q854 rfl (by first | assumption | grind) (by first | assumption | omega) (Or.inl rfl) dJ18_init_2_6 ?_
  refine gw_vret rfl dJ18_init_2_9 (by omega) (by omega) ?_
  exact ⟨rfl, rfl⟩
theorem jc_tsinit {S : Nat} (hS : K S = 18) (hS3 : 300 ≤ S) : gW G yJ18_init cJ18_init 1 (none) 4 1 9 [vR (some S)] (K, N, I, R) nx (gEw (rr_u1 K nx 16, rr_u1 N nx 0, rr_u1 I nx (fun _ => 0), rr_u2 (rr_u1 R nx (fun _ => none)) S 0 (some nx)) (nx + 1)) := by
  refine gW.of (by decide) rfl (Nat.le_of_ble_eq_true rfl) ?_
  refine x_ls (ls2 := [some (vR (some S))]) rfl ?_
  refine x_live (fun hlv h3 => ?_)
  have hSx : S ≠ nx := by have := hlv S (by show K S ≠ 0; omega); omega
  refine x_aload_n dJ18_init_0 rfl ?_
  refine g_new 16 rfl (by decide) q842 q268 q146 (by omega) (by omega) dJ18_init_1 ?_
  refine x_dup dJ18_init_4 rfl ?_
  refine g_ci0 (jc_tminit (by simp [rr_u1]) h3 (by simp [rr_u1]) (by simp [rr_u1]) (by simp [rr_u1])) fJ1_init q843 (by decide) (Nat.le_of_ble_eq_true rfl) (by omega) (by omega) dJ18_init_5 (fun h2 n2 hp => ?_)
  obtain ⟨rfl, rfl⟩ := hp
  refine g_ci1 (jc_tsinit2 (by simp [rr_u1, hSx, hS]) hS3) fJ18_init_2 q844 (by decide) (Nat.le_of_ble_eq_true rfl) (by omega) (by omega) dJ18_init_8 (fun h2 n2 hp => ?_)
  obtain ⟨rfl, rfl⟩ := hp
  refine gw_vret rfl dJ18_init_11 (by omega) (by omega) ?_
  exact ⟨rfl, rfl⟩
theorem jc_pieceInit {p : Nat} (hp : K p = 7) (hp3 : 300 ≤ p) : gW G yX2_init cX2_init 1 (none) 5 2 10 [vR (some p)] (K, N, I, R) nx (gEw (rr_u1 (rr_u1 K nx 18) (nx + 1) 16, rr_u1 (rr_u1 N nx 0) (nx + 1) 0, rr_u1 (rr_u1 I nx (fun _ => 0)) (nx + 1) (fun _ => 0), rr_u2 (rr_u2 (rr_u1 (rr_u1 R nx (fun _ => none)) (nx + 1) (fun _ => none)) nx 0 (some (nx + 1))) p 2 (some nx)) (nx + 2)) := by
  refine gW.of (by decide) rfl (Nat.le_of_ble_eq_true rfl) ?_
  refine x_ls (ls2 := [some (vR (some p))]) rfl ?_
  refine x_live (fun hlv h3 => ?_)
  have hpx : p < nx := hlv p (by show K p ≠ 0; omega)
  have hp1 : p ≠ nx := by omega
  have hp2 : p ≠ nx + 1 := by omega
  refine x_aload_n dX2_init_0 rfl ?_
  refine x_oinit q836 q197 q198 (by decide) (Nat.le_of_ble_eq_true rfl) dX2_init_1 ?_
  refine x_aload_n dX2_init_4 rfl ?_
  refine g_new 18 rfl (by decide) q837 q838 q166 (by omega) (by omega) dX2_init_5 ?_
  refine x_dup dX2_init_8 rfl ?_
  refine g_ci0 (jc_tsinit (by simp [rr_u1]) h3) fJ18_init q839 (by decide) (Nat.le_of_ble_eq_true rfl) (by omega) (by omega) dX2_init_9 (fun h2 n2 hp => ?_)
  obtain ⟨rfl, rfl⟩ := hp
  refine g_putR 2 (ci := 7) (kf := 2) rfl (by decide) (by decide) rfl rfl q861 rfl (by simp [rr_u1, hp1, hp2, hp]) (by first | assumption | omega) (Or.inr ⟨rfl, rfl, rfl⟩) dX2_init_12 ?_
  refine gw_vret rfl dX2_init_15 (by omega) (by omega) ?_
  exact ⟨rfl, rfl⟩
/-- put of a key that is there, with the value that is there -/
theorem jc_put2_old {e0 : Nat} (hT : Tm K N I R κ M L c) (hk : Key K N I R κ k z) (he0 : e0 ∈ L) (hz : c e0 = z) (hv : R e0 1 = some v) : gP G yJ1_put_2 cJ1_put_2 10 ((some (FieldType.object "java/lang/Object"))) 7 1 6 [vR (some M), vR (some k), vR (some v), vI 1] (K, N, I, R) nx (gEq (vR (some v)) (K, N, I, R) nx) := by
  have hT2 := hT
  obtain ⟨⟨hM, hM3, hcmp, hsz⟩, ⟨ps, lo, hi, ht⟩, hE, hsort, hlen⟩ := hT
  refine gP.of (by decide) rfl (Nat.le_of_ble_eq_true rfl) ?_
  refine x_ls (ls2 := [some (vR (some M)), some (vR (some k)), some (vR (some v)), some (vI 1), none, none, none, none, none, none]) rfl ?_
  refine x_aload_n dJ1_put_2_0 rfl ?_
  refine g_getR 3 (r := _) (ci := 16) (kf := 3) rfl (by decide) (by decide) rfl rfl q277 rfl (by first | assumption | grind) rfl dJ1_put_2_1 ?_
  refine x_astore dJ1_put_2_4 (by decide) ?_
  refine x_aload dJ1_put_2_6 rfl ?_
  refine x_ifnonnull (t := 19) dJ1_put_2_8 (by decide) (fun x_8 c_8 => ?_) (fun c_8 => ?_)
  · skip
    refine x_aload_n dJ1_put_2_19 rfl ?_
    refine g_getR 2 (r := none) (ci := 16) (kf := 2) rfl (by decide) (by decide) rfl rfl q276 rfl (by first | assumption | grind) (hcmp) dJ1_put_2_20 ?_
    refine x_astore dJ1_put_2_23 (by decide) ?_
    refine x_aload dJ1_put_2_25 rfl ?_
    refine x_ifnull_y (t := 112) dJ1_put_2_27 (by decide) ?_
    refine x_aload_n dJ1_put_2_112 rfl ?_
    refine g_cs1 (jc_nonNull) fJ13_requireNonNull q619 (by decide) (Nat.le_of_ble_eq_true rfl) (by omega) (by omega) dJ1_put_2_113 (fun v h2 n2 hp => ?_)
    obtain ⟨rfl, rfl, rfl⟩ := hp
    refine x_pop dJ1_put_2_116 rfl ?_
    refine x_aload_n dJ1_put_2_117 rfl ?_
    refine x_castK hk q622 dJ1_put_2_118 ?_
    refine x_astore dJ1_put_2_121 (by decide) ?_
    have hr := ht.2.2.2.2.2.2.2.2.2.2 x_8 c_8
    have h0 := ht.2.2.1 e0 he0
    refine x_ls (ls2 := [some (vR (some M)), some (vR (some k)), some (vR (some v)), some (vI 1), some (vR (some x_8)), none, none, some (vR none), some (vR (some k)), none]) (by simp [c_8]) ?_
    refine rr_ind (W := fun x : Nat => gp G yJ1_put_2 cJ1_put_2 10 ((some (FieldType.object "java/lang/Object"))) 7 1 6 (gEq (vR (some v)) (K, N, I, R) nx) 123 [some (vR (some M)), some (vR (some k)), some (vR (some v)), some (vI 1), some (vR (some x)), none, none, some (vR none), some (vR (some k)), none] [] (K, N, I, R) nx 0 0) (fun x => hi x - lo x) (fun x => x ∈ L ∧ lo x ≤ ps e0 ∧ ps e0 < hi x) ?_ x_8 ⟨hr.1, by omega, by omega⟩
    rintro x ⟨hxm, hin⟩ ih
    obtain ⟨hKx, hx300, -, k2, hk2, hkey2⟩ := hE x hxm
    have hx3 := ht.2.2.1 x hxm
    have hcm := hT2.lt ht (a := e0) (b := x) he0 hxm
    have hcm2 := hT2.lt ht (a := x) (b := e0) hxm he0
    refine x_aload dJ1_put_2_123 rfl ?_
    refine x_astore dJ1_put_2_125 (by decide) ?_
    refine x_aload dJ1_put_2_127 rfl ?_
    refine x_aload dJ1_put_2_129 rfl ?_
    refine g_getR 0 (r := some k2) (ci := 17) (kf := 0) rfl (by decide) (by decide) rfl rfl q894 rfl (by first | assumption | grind) (hk2) dJ1_put_2_131 ?_
    refine x_cmpK hk hkey2 q624 (by decide) (Nat.le_of_ble_eq_true rfl) dJ1_put_2_134 (by omega) (by omega) (fun y hv0 hv1 hv2 => ?_)
    refine x_istore dJ1_put_2_139 (by decide) ?_
    refine x_iload dJ1_put_2_141 rfl ?_
    refine x_if_ge (t := 156) dJ1_put_2_143 (by decide) (by omega) (fun c_143 => ?_) (fun c_143 => ?_)
    · skip
      refine x_iload dJ1_put_2_156 rfl ?_
      refine x_if_le (t := 171) dJ1_put_2_158 (by decide) (by omega) (fun c_158 => ?_) (fun c_158 => ?_)
      · skip
        have hxe : x = e0 := by
          have : c x = z := (hv2.mp (by omega)).symm
          exact hcm2.2.mp (by omega)
        have hx1 : R x 1 = some v := by rw [hxe]; exact hv
        refine x_aload dJ1_put_2_171 rfl ?_
        refine g_getR 1 (r := some v) (ci := 17) (kf := 1) rfl (by decide) (by decide) rfl rfl q897 rfl (by first | assumption | grind) (hx1) dJ1_put_2_173 ?_
        refine x_astore dJ1_put_2_176 (by decide) ?_
        refine x_iload_n dJ1_put_2_178 rfl ?_
        refine x_if_ne (t := 187) dJ1_put_2_179 (by decide) (by omega) (fun c_179 => ?_) (fun c_179 => absurd c_179 (by decide))
        refine x_aload dJ1_put_2_187 rfl ?_
        refine x_aload_n dJ1_put_2_189 rfl ?_
        refine g_putR 1 (ci := 17) (kf := 1) rfl (by decide) (by decide) rfl rfl q897 rfl (by first | assumption | grind) (by first | assumption | omega) (Or.inl rfl) dJ1_put_2_190 ?_
        refine x_aload dJ1_put_2_193 rfl ?_
        refine gp_aret rfl (Or.inl ⟨_, rfl⟩) dJ1_put_2_195 (by omega) (by omega) ?_
        exact ⟨rfl, tR (rr_u2_id R hx1), rfl⟩
      · skip
        refine x_aload dJ1_put_2_161 rfl ?_
        refine g_getR 3 (r := _) (ci := 17) (kf := 3) rfl (by decide) (by decide) rfl rfl q899 rfl (by first | assumption | grind) rfl dJ1_put_2_163 ?_
        refine x_astore dJ1_put_2_166 (by decide) ?_
        refine x_goto (t := 196) dJ1_put_2_168 (by decide) ?_
        have hlt : c x < z := by omega
        have hpe : ps x < ps e0 := hcm2.1.mp (by omega)
        refine x_aload dJ1_put_2_196 rfl ?_
        refine x_ifnonnull (t := 123) dJ1_put_2_198 (by decide) (fun x_198 c_198 => ?_) (fun c_198 => ?_)
        · skip
          have hl := ht.rc hxm c_198
          rw [c_198]
          refine x_loc (ls2 := [some (vR (some M)), some (vR (some k)), some (vR (some v)), some (vI 1), some (vR (some x_198)), none, none, some (vR none), some (vR (some k)), none]) (by repeat first | exact trivial | refine ⟨Or.inr rfl, ?_⟩ | refine ⟨Or.inl rfl, ?_⟩) ?_
          exact ih x_198 ⟨hl.1, by omega, by omega⟩ (by have := ht.2.2.1 x_198 hl.1; omega)
        · skip
          have := ht.2.2.2.2.2.1 x hxm c_198
          omega
    · skip
      refine x_aload dJ1_put_2_146 rfl ?_
      refine g_getR 2 (r := _) (ci := 17) (kf := 2) rfl (by decide) (by decide) rfl rfl q898 rfl (by first | assumption | grind) rfl dJ1_put_2_148 ?_
      refine x_astore dJ1_put_2_151 (by decide) ?_
      refine x_goto (t := 196) dJ1_put_2_153 (by decide) ?_
      have hlt : z < c x := hv1.mp (by omega)
      have hpe : ps e0 < ps x := hcm.1.mp (by omega)
      refine x_aload dJ1_put_2_196 rfl ?_
      refine x_ifnonnull (t := 123) dJ1_put_2_198 (by decide) (fun x_198 c_198 => ?_) (fun c_198 => ?_)
      · skip
        have hl := ht.lc hxm c_198
        rw [c_198]
        refine x_loc (ls2 := [some (vR (some M)), some (vR (some k)), some (vR (some v)), some (vI 1), some (vR (some x_198)), none, none, some (vR none), some (vR (some k)), none]) (by repeat first | exact trivial | refine ⟨Or.inr rfl, ?_⟩ | refine ⟨Or.inl rfl, ?_⟩) ?_
        exact ih x_198 ⟨hl.1, by omega, by omega⟩ (by have := ht.2.2.1 x_198 hl.1; omega)
      · skip
        have := ht.2.2.2.1 x hxm c_198
        omega
  · skip
    have hL := ht.2.2.2.2.2.2.2.2.2.1 c_8
    rw [hL] at he0
    cases he0
theorem jc_put_old {e0 : Nat} (hT : Tm K N I R κ M L c) (hk : Key K N I R κ k z) (he0 : e0 ∈ L) (hz : c e0 = z) (hv : R e0 1 = some v) : gP G yJ1_put cJ1_put 3 ((some (FieldType.object "java/lang/Object"))) 8 1 6 [vR (some M), vR (some k), vR (some v)] (K, N, I, R) nx (gEq (vR (some v)) (K, N, I, R) nx) := by
  have hM := hT.1.1
  refine gP.of (by decide) rfl (Nat.le_of_ble_eq_true rfl) ?_
  refine x_ls (ls2 := [some (vR (some M)), some (vR (some k)), some (vR (some v))]) rfl ?_
  refine x_aload_n dJ1_put_0 rfl ?_
  refine x_aload_n dJ1_put_1 rfl ?_
  refine x_aload_n dJ1_put_2 rfl ?_
  refine x_iconst dJ1_put_3 ?_
  refine g_cv3 (ci := 16) (jc_put2_old hT hk he0 hz hv) fJ1_put_2 q874 rfl (by decide) (by first | assumption | grind) (by decide) (Nat.le_of_ble_eq_true rfl) (by omega) (by omega) dJ1_put_4 (fun v h2 n2 hp => ?_)
  obtain ⟨rfl, rfl, rfl⟩ := hp
  refine gp_aret rfl (Or.inl ⟨_, rfl⟩) dJ1_put_7 (by omega) (by omega) ?_
  exact ⟨rfl, rfl, rfl⟩
/-- a TreeSet of small numbers -/
def Ts (K N : Nat → Nat) (I : Nat → Int → Int) (R : Nat → Int → Option Nat) (S M : Nat) (L : List Nat) (c : Nat → Int) : Prop := K S = 18 ∧ 300 ≤ S ∧ R S 0 = some M ∧ Tm K N I R 22 M L c ∧ ∀ e, e ∈ L → R e 1 = some 6
def AdP (K N : Nat → Nat) (I : Nat → Int → Int) (R : Nat → Int → Option Nat) (nx M : Nat) (L : List Nat) (c : Nat → Int) (z : Int) : rr_V → rr_H → Nat → Prop := fun w h2 n2 => (∃ b, w = vI b) ∧ (((∃ e, e ∈ L ∧ c e = z) ∧ h2 = (K, N, I, R) ∧ nx = n2) ∨ ((∀ e, e ∈ L → c e ≠ z) ∧ PuP K N I R nx 22 M L c z 6 h2 n2))
theorem jc_tsadd {S : Nat} (hS : Ts K N I R S M L c) (hk : Key K N I R 22 k z) (hl : L.length < 99999) : gP G yJ18_add cJ18_add 2 ((some FieldType.boolean)) 9 1 6 [vR (some S), vR (some k)] (K, N, I, R) nx (AdP K N I R nx M L c z) := by
  obtain ⟨hKS, hS3, hSM, hT, hv⟩ := hS
  have hM := hT.1.1
  refine gP.of (by decide) rfl (Nat.le_of_ble_eq_true rfl) ?_
  refine x_ls (ls2 := [some (vR (some S)), some (vR (some k))]) rfl ?_
  by_cases hex : ∃ e, e ∈ L ∧ c e = z
  · obtain ⟨e0, he0, hz⟩ := hex
    refine x_aload_n dJ18_add_0 rfl ?_
    refine g_getR 0 (r := some M) (ci := 18) (kf := 0) rfl (by decide) (by decide) rfl rfl q854 rfl (by first | assumption | grind) (hSM) dJ18_add_1 ?_
    refine x_aload_n dJ18_add_4 rfl ?_
    refine x_gets 2 rfl q986 rfl dJ18_add_5 ?_
    refine x_callNM (As := [_, _]) (rest := []) (n := 2) rfl (jc_put_old hT hk he0 hz (hv e0 he0)) (List.mem_of_getElem? (i := 0) rfl) (List.mem_of_getElem? (i := 1) rfl) q989 q991 q871 q146 q873 q993 q992 q990 (by decide) (by decide +kernel) hM rfl (by decide) (by decide) (by decide) (by omega) (by omega) dJ18_add_8 (fun r h2 n2 hp => ?_)
    obtain ⟨v, rfl, rfl, rfl, rfl⟩ := hp
    refine x_st (st2 := [vR (some 6)]) rfl ?_
    refine x_ifnonnull_y (t := 20) dJ18_add_13 (by decide) ?_
    refine x_iconst dJ18_add_20 ?_
    refine gp_zret rfl dJ18_add_21 (by first | exact Or.inl rfl | exact Or.inr rfl | exact bi_01 _ | omega) (by omega) (by omega) ?_
    exact ⟨⟨_, rfl⟩, Or.inl ⟨⟨e0, he0, hz⟩, rfl, rfl⟩⟩
  · have hno : ∀ e, e ∈ L → c e ≠ z := fun e he q => hex ⟨e, he, q⟩
    refine x_aload_n dJ18_add_0 rfl ?_
    refine g_getR 0 (r := some M) (ci := 18) (kf := 0) rfl (by decide) (by decide) rfl rfl q854 rfl (by first | assumption | grind) (hSM) dJ18_add_1 ?_
    refine x_aload_n dJ18_add_4 rfl ?_
    refine x_gets 2 rfl q986 rfl dJ18_add_5 ?_
    refine x_callNM (As := [_, _]) (rest := []) (n := 2) rfl (jc_put hT hk hno hl) (List.mem_of_getElem? (i := 0) rfl) (List.mem_of_getElem? (i := 1) rfl) q989 q991 q871 q146 q873 q993 q992 q990 (by decide) (by decide +kernel) hM rfl (by decide) (by decide) (by decide) (by omega) (by omega) dJ18_add_8 (fun r h2 n2 hp => ?_)
    obtain ⟨v, rfl, rfl, hp⟩ := hp
    refine x_st (st2 := [vR none]) rfl ?_
    refine x_ifnonnull_n dJ18_add_13 ?_
    refine x_iconst dJ18_add_16 ?_
    refine x_goto (t := 21) dJ18_add_17 (by decide) ?_
    refine gp_zret rfl dJ18_add_21 (by first | exact Or.inl rfl | exact Or.inr rfl | exact bi_01 _ | omega) (by omega) (by omega) ?_
    exact ⟨⟨_, rfl⟩, Or.inr ⟨hno, hp⟩⟩
theorem jc_tmsize (hT : Tm K N I R κ M L c) : gP G yJ1_size cJ1_size 1 ((some FieldType.int)) 0 0 0 [vR (some M)] (K, N, I, R) nx (gEq (vI (L.length : Int)) (K, N, I, R) nx) := by
  have hM := hT.1.1
  refine gP.of (by decide) rfl (Nat.le_of_ble_eq_true rfl) ?_
  refine x_ls (ls2 := [some (vR (some M))]) rfl ?_
  refine x_aload_n dJ1_size_0 rfl ?_
  refine g_getI 4 (ci := 16) (kf := 4) rfl (by decide) (by decide) rfl rfl q278 rfl (by first | assumption | grind) dJ1_size_1 ?_
  rw [hT.1.2.2.2]
  refine gp_iret rfl dJ1_size_4 (by omega) (by omega) ?_
  exact ⟨rfl, rfl, rfl⟩
theorem jc_tssize {S : Nat} (hS : Ts K N I R S M L c) : gP G yJ18_size cJ18_size 1 ((some FieldType.int)) 1 0 0 [vR (some S)] (K, N, I, R) nx (gEq (vI (L.length : Int)) (K, N, I, R) nx) := by
  obtain ⟨hKS, hS3, hSM, hT, hv⟩ := hS
  have hM := hT.1.1
  refine gP.of (by decide) rfl (Nat.le_of_ble_eq_true rfl) ?_
  refine x_ls (ls2 := [some (vR (some S))]) rfl ?_
  refine x_aload_n dJ18_size_0 rfl ?_
  refine g_getR 0 (r := some M) (ci := 18) (kf := 0) rfl (by decide) (by decide) rfl rfl q854 rfl (by first | assumption | grind) (hSM) dJ18_size_1 ?_
  refine x_callNM (As := []) (rest := []) (n := 0) rfl (jc_tmsize hT) (List.mem_of_getElem? (i := 2) rfl) (List.mem_of_getElem? (i := 3) rfl) q1019 q1020 q1022 q146 q1024 q1023 q1021 q990 (by decide) (by decide +kernel) hM rfl (by decide) (by decide) (by decide) (by omega) (by omega) dJ18_size_4 (fun r h2 n2 hp => ?_)
  obtain ⟨v, rfl, rfl, rfl, rfl⟩ := hp
  refine x_st (st2 := [vI (L.length : Int)]) rfl ?_
  refine gp_iret rfl dJ18_size_9 (by omega) (by omega) ?_
  exact ⟨rfl, rfl, rfl⟩
theorem jc_pnext {p S : Nat} (hp : K p = 7) (hpS : R p 2 = some S) (hS : Ts K N I R S M L c) (hb : I p 1 = 0 ∨ I p 1 = 1) : gP G yX2_next cX2_next 1 ((some FieldType.int)) 2 0 0 [vR (some p)] (K, N, I, R) nx (gEq (vI ((L.length : Int) + I p 1)) (K, N, I, R) nx) := by
  have hKS := hS.1
  refine gP.of (by decide) rfl (Nat.le_of_ble_eq_true rfl) ?_
  refine x_ls (ls2 := [some (vR (some p))]) rfl ?_
  refine x_aload_n dX2_next_0 rfl ?_
  refine g_getR 2 (r := some S) (ci := 7) (kf := 2) rfl (by decide) (by decide) rfl rfl q861 rfl (by first | assumption | grind) (hpS) dX2_next_1 ?_
  refine g_cv0 (ci := 18) (jc_tssize hS) fJ18_size q1014 rfl (by decide) (by first | assumption | grind) (by decide) (Nat.le_of_ble_eq_true rfl) (by omega) (by omega) dX2_next_4 (fun v h2 n2 hp => ?_)
  obtain ⟨rfl, rfl, rfl⟩ := hp
  refine x_aload_n dX2_next_7 rfl ?_
  refine g_getI 1 (ci := 7) (kf := 1) rfl (by decide) (by decide) rfl rfl q859 rfl (by first | assumption | grind) dX2_next_8 ?_
  refine x_if_eq (t := 18) dX2_next_11 (by decide) (by omega) (fun c_11 => ?_) (fun c_11 => ?_)
  · skip
    refine x_iconst dX2_next_18 ?_
    refine x_iadd dX2_next_19 ?_
    refine gp_iret rfl dX2_next_20 (by omega) (by omega) ?_
    refine ⟨?_, rfl, rfl⟩
    have : I p 1 = 0 ∨ I p 1 = 1 := hb
    congr 1
    omega
  · skip
    refine x_iconst dX2_next_14 ?_
    refine x_goto (t := 19) dX2_next_15 (by decide) ?_
    refine x_iadd dX2_next_19 ?_
    refine gp_iret rfl dX2_next_20 (by omega) (by omega) ?_
    refine ⟨?_, rfl, rfl⟩
    have : I p 1 = 0 ∨ I p 1 = 1 := hb
    congr 1
    omega
end TM
