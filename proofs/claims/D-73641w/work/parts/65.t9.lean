/-! TREES 9: put -/
set_option maxRecDepth 100000
section TM
variable {G : rr_G} {nx : Nat} {K N : Nat → Nat} {I : Nat → Int → Int} {R : Nat → Int → Option Nat} {κ k M v : Nat} {z : Int} {L : List Nat} {c : Nat → Int}
theorem jc_compareM (hM : K M = 16) (hcmp : R M 2 = none) (hk : Key K N I R κ k z) : gP G yJ1_compare cJ1_compare 3 ((some FieldType.int)) 5 0 0 [vR (some M), vR (some k), vR (some k)] (K, N, I, R) nx (fun w h2 n2 => (∃ y, w = vI y) ∧ h2 = (K, N, I, R) ∧ nx = n2) := by
  refine gP.of (by decide) rfl (Nat.le_of_ble_eq_true rfl) ?_
  refine x_ls (ls2 := [some (vR (some M)), some (vR (some k)), some (vR (some k))]) rfl ?_
  refine x_aload_n dJ1_compare_0 rfl ?_
  refine g_getR 2 (r := none) (ci := 16) (kf := 2) rfl (by decide) (by decide) rfl rfl q276 rfl (by first | assumption | grind) (hcmp) dJ1_compare_1 ?_
  refine x_ifnonnull_n dJ1_compare_4 ?_
  refine x_aload_n dJ1_compare_7 rfl ?_
  refine x_castK hk q622 dJ1_compare_8 ?_
  refine x_aload_n dJ1_compare_11 rfl ?_
  refine x_cmpK hk hk q624 (by decide) (Nat.le_of_ble_eq_true rfl) dJ1_compare_12 (by omega) (by omega) (fun y hv0 hv1 hv2 => ?_)
  refine x_goto (t := 31) dJ1_compare_17 (by decide) ?_
  refine gp_iret rfl dJ1_compare_31 (by omega) (by omega) ?_
  exact ⟨⟨_, rfl⟩, rfl, rfl⟩
theorem jc_addEmpty (hT : Tm K N I R κ M [] c) (hk : Key K N I R κ k z) : gW G yJ1_addEntryToEmptyMap cJ1_addEntryToEmptyMap 3 (none) 6 1 6 [vR (some M), vR (some k), vR (some v)] (K, N, I, R) nx (PuP K N I R nx κ M [] c z v) := by
  obtain ⟨⟨hM, hM3, hcmp, hsz⟩, -⟩ := hT
  refine gW.of (by decide) rfl (Nat.le_of_ble_eq_true rfl) ?_
  refine x_ls (ls2 := [some (vR (some M)), some (vR (some k)), some (vR (some v))]) rfl ?_
  refine x_live (fun hlv h3 => ?_)
  have hlv : ∀ x, K x ≠ 0 → x < nx := hlv
  have hMx : M ≠ nx := by have := hlv M (by omega); omega
  have hKM : rr_u1 K nx 17 M = 16 := by simp [rr_u1, hMx, hM]
  refine x_aload_n dJ1_addEntryToEmptyMap_0 rfl ?_
  refine x_aload_n dJ1_addEntryToEmptyMap_1 rfl ?_
  refine x_aload_n dJ1_addEntryToEmptyMap_2 rfl ?_
  refine g_cv2 (ci := 16) (jc_compareM hM hcmp hk) fJ1_compare q882 rfl (by decide) (by first | assumption | grind) (by decide) (Nat.le_of_ble_eq_true rfl) (by omega) (by omega) dJ1_addEntryToEmptyMap_3 (fun v h2 n2 hp => ?_)
  obtain ⟨⟨y, rfl⟩, rfl, rfl⟩ := hp
  refine x_pop dJ1_addEntryToEmptyMap_6 rfl ?_
  refine x_aload_n dJ1_addEntryToEmptyMap_7 rfl ?_
  refine g_new 17 rfl (by decide) q886 q887 q167 (by omega) (by omega) dJ1_addEntryToEmptyMap_8 ?_
  refine x_dup dJ1_addEntryToEmptyMap_11 rfl ?_
  refine x_aload_n dJ1_addEntryToEmptyMap_12 rfl ?_
  refine x_aload_n dJ1_addEntryToEmptyMap_13 rfl ?_
  refine x_null dJ1_addEntryToEmptyMap_14 ?_
  refine g_ci3 (jc_einit (by simp [rr_u1]) h3) fJ19_init q888 (by decide) (Nat.le_of_ble_eq_true rfl) (by omega) (by omega) dJ1_addEntryToEmptyMap_15 (fun h2 n2 hp => ?_)
  obtain ⟨rfl, rfl⟩ := hp
  refine g_putR 3 (ci := 16) (kf := 3) rfl (by decide) (by decide) rfl rfl q277 rfl (hKM) (by first | assumption | omega) (Or.inl rfl) dJ1_addEntryToEmptyMap_18 ?_
  refine x_aload_n dJ1_addEntryToEmptyMap_21 rfl ?_
  refine x_iconst dJ1_addEntryToEmptyMap_22 ?_
  refine g_putI 4 (ci := 16) (kf := 4) rfl (by decide) (by decide) rfl rfl q278 rfl (hKM) (by first | assumption | omega) (Or.inl rfl) (rr_nar_i _) dJ1_addEntryToEmptyMap_23 ?_
  refine x_aload_n dJ1_addEntryToEmptyMap_26 rfl ?_
  refine x_dup dJ1_addEntryToEmptyMap_27 rfl ?_
  refine g_getI 5 (ci := 16) (kf := 5) rfl (by decide) (by decide) rfl rfl q279 rfl (hKM) dJ1_addEntryToEmptyMap_28 ?_
  refine x_iconst dJ1_addEntryToEmptyMap_31 ?_
  refine x_iadd dJ1_addEntryToEmptyMap_32 ?_
  refine g_putI 5 (ci := 16) (kf := 5) rfl (by decide) (by decide) rfl rfl q279 rfl (hKM) (by first | assumption | omega) (Or.inl rfl) (rr_nar_i _) dJ1_addEntryToEmptyMap_33 ?_
  refine gw_vret rfl dJ1_addEntryToEmptyMap_36 (by omega) (by omega) ?_
  have hother : ∀ x, x ≠ nx → x ≠ M → rr_u2 (rr_u2 (rr_u2 (rr_u1 I nx (fun _ => 0)) nx 5 1) M 4 1) M 5 (rr_u2 (rr_u2 (rr_u1 I nx (fun _ => 0)) nx 5 1) M 4 1 M 5 + 1) x = I x ∧ rr_u2 (rr_u2 (rr_u2 (rr_u2 (rr_u1 R nx (fun _ => none)) nx 0 (some k)) nx 1 (some v)) nx 4 none) M 3 (some nx) x = R x := by
    intro x g1 g2
    constructor
    · funext i; simp [rr_u2, rr_u1, g1, g2]
    · funext i; simp [rr_u2, rr_u1, g1, g2]
  refine ⟨rfl, _, _, 0, rfl, by simp, ⟨⟨hKM, hM3, by simp [rr_u2, rr_u1, hMx, hcmp], by simp [rr_u2, insA]⟩, ⟨fun _ => 0, fun _ => 0, fun _ => 1, ?_⟩, fun e he => ?_, ?_, by simp [insA]⟩, by simp [rr_u2, hMx.symm], fun x g1 g2 _ => hother x g1 g2, fun e he => by cases he⟩
  · have e : rr_u2 (rr_u2 (rr_u2 (rr_u2 (rr_u1 R nx (fun _ => none)) nx 0 (some k)) nx 1 (some v)) nx 4 none) M 3 (some nx) M 3 = some nx := by simp [rr_u2]
    rw [e]
    exact Trr.one (by simp [rr_u2, rr_u1, hMx.symm]) (by simp [rr_u2, rr_u1, hMx.symm]) (by simp [rr_u2, rr_u1, hMx.symm])
  · have he2 : e = nx := by simpa [insA] using he
    rw [he2]
    refine ⟨by simp [rr_u1], h3, Or.inr (by simp [rr_u2, hMx.symm]), k, by simp [rr_u2, hMx.symm], ?_⟩
    rw [show rr_u1 c nx z nx = z by simp [rr_u1]]
    refine hk.keep (fun x hx => ?_) (fun x hx => ?_) (fun x hx => ?_)
    · have : x ≠ nx := Nat.ne_of_lt (hlv x hx)
      simp [rr_u1, this]
    · exact (hother x (by have := hlv x (by omega); omega) (by intro q; rw [q] at hx; omega)).1
    · exact (hother x (by have := hlv x (by omega); omega) (by intro q; rw [q] at hx; omega)).2
  · intro i j a b hij ha hb
    have h1 := (List.getElem?_eq_some_iff.mp ha).1
    have h2 := (List.getElem?_eq_some_iff.mp hb).1
    simp [insA] at h1 h2
    omega
/-- put of a key that isn't there -/
def PutP (K N : Nat → Nat) (I : Nat → Int → Int) (R : Nat → Int → Option Nat) (nx κ M : Nat) (L : List Nat) (c : Nat → Int) (z : Int) (v : Nat) : rr_V → rr_H → Nat → Prop := fun w h2 n2 => w = vR none ∧ PuP K N I R nx κ M L c z v h2 n2
theorem jc_put2 (hT : Tm K N I R κ M L c) (hk : Key K N I R κ k z) (hno : ∀ e, e ∈ L → c e ≠ z) (hl2 : L.length < 99999) : gP G yJ1_put_2 cJ1_put_2 10 ((some (FieldType.object "java/lang/Object"))) 7 1 6 [vR (some M), vR (some k), vR (some v), vI 1] (K, N, I, R) nx (PutP K N I R nx κ M L c z v) := by
  have hT2 := hT
  obtain ⟨⟨hM, hM3, hcmp, hsz⟩, ⟨ps, lo, hi, ht⟩, hE, hsort, hlen⟩ := hT
  refine gP.of (by decide) rfl (Nat.le_of_ble_eq_true rfl) ?_
  refine x_ls (ls2 := [some (vR (some M)), some (vR (some k)), some (vR (some v)), some (vI 1), none, none, none, none, none, none]) rfl ?_
  refine x_aload_n dJ1_put_2_0 rfl ?_
  refine g_getR 3 (r := _) (ci := 16) (kf := 3) rfl (by decide) (by decide) rfl rfl q277 rfl (by first | assumption | grind) rfl dJ1_put_2_1 ?_
  refine x_astore dJ1_put_2_4 (by decide) ?_
  refine x_aload dJ1_put_2_6 rfl ?_
  refine x_ifnonnull (t := 19) dJ1_put_2_8 (by decide) (fun x_8 c_8 => ?_) (fun c_8 => ?_)
  · skip
    refine x_aload_n dJ1_put_2_19 rfl ?_
    refine g_getR 2 (r := none) (ci := 16) (kf := 2) rfl (by decide) (by decide) rfl rfl q276 rfl (by first | assumption | grind) (hcmp) dJ1_put_2_20 ?_
    refine x_astore dJ1_put_2_23 (by decide) ?_
    refine x_aload dJ1_put_2_25 rfl ?_
    refine x_ifnull_y (t := 112) dJ1_put_2_27 (by decide) ?_
    refine x_aload_n dJ1_put_2_112 rfl ?_
    refine g_cs1 (jc_nonNull) fJ13_requireNonNull q619 (by decide) (Nat.le_of_ble_eq_true rfl) (by omega) (by omega) dJ1_put_2_113 (fun v h2 n2 hp => ?_)
    obtain ⟨rfl, rfl, rfl⟩ := hp
    refine x_pop dJ1_put_2_116 rfl ?_
    refine x_aload_n dJ1_put_2_117 rfl ?_
    refine x_castK hk q622 dJ1_put_2_118 ?_
    refine x_astore dJ1_put_2_121 (by decide) ?_
    have hr := ht.2.2.2.2.2.2.2.2.2.2 x_8 c_8
    refine x_ls (ls2 := [some (vR (some M)), some (vR (some k)), some (vR (some v)), some (vI 1), some (vR (some x_8)), none, none, some (vR none), some (vR (some k)), none]) (by simp [c_8]) ?_
    refine rr_ind (W := fun x : Nat => gp G yJ1_put_2 cJ1_put_2 10 ((some (FieldType.object "java/lang/Object"))) 7 1 6 (PutP K N I R nx κ M L c z v) 123 [some (vR (some M)), some (vR (some k)), some (vR (some v)), some (vI 1), some (vR (some x)), none, none, some (vR none), some (vR (some k)), none] [] (K, N, I, R) nx 0 0) (fun x => hi x - lo x) (fun x => x ∈ L ∧ ∀ f, f ∈ L → (ps f < lo x → c f < z) ∧ (hi x ≤ ps f → z < c f)) ?_ x_8 ⟨hr.1, fun f hf => ⟨fun q => by omega, fun q => by have := ht.2.2.1 f hf; omega⟩⟩
    rintro x ⟨hxm, hin⟩ ih
    obtain ⟨hKx, -, -, k2, hk2, hkey2⟩ := hE x hxm
    have hx3 := ht.2.2.1 x hxm
    have hcm := fun f hf => hT2.lt ht (a := f) (b := x) hf hxm
    have hcm2 := fun f hf => hT2.lt ht (a := x) (b := f) hxm hf
    have hxz := hno x hxm
    refine x_aload dJ1_put_2_123 rfl ?_
    refine x_astore dJ1_put_2_125 (by decide) ?_
    refine x_aload dJ1_put_2_127 rfl ?_
    refine x_aload dJ1_put_2_129 rfl ?_
    refine g_getR 0 (r := some k2) (ci := 17) (kf := 0) rfl (by decide) (by decide) rfl rfl q894 rfl (by first | assumption | grind) (hk2) dJ1_put_2_131 ?_
    refine x_cmpK hk hkey2 q624 (by decide) (Nat.le_of_ble_eq_true rfl) dJ1_put_2_134 (by omega) (by omega) (fun y hv0 hv1 hv2 => ?_)
    refine x_istore dJ1_put_2_139 (by decide) ?_
    refine x_iload dJ1_put_2_141 rfl ?_
    refine x_if_ge (t := 156) dJ1_put_2_143 (by decide) (by omega) (fun c_143 => ?_) (fun c_143 => ?_)
    · skip
      refine x_iload dJ1_put_2_156 rfl ?_
      refine x_if_le (t := 171) dJ1_put_2_158 (by decide) (by omega) (fun c_158 => ?_) (fun c_158 => ?_)
      · skip
        exact absurd (hv2.mp (by omega)).symm hxz
      · skip
        refine x_aload dJ1_put_2_161 rfl ?_
        refine g_getR 3 (r := _) (ci := 17) (kf := 3) rfl (by decide) (by decide) rfl rfl q899 rfl (by first | assumption | grind) rfl dJ1_put_2_163 ?_
        refine x_astore dJ1_put_2_166 (by decide) ?_
        refine x_goto (t := 196) dJ1_put_2_168 (by decide) ?_
        have hlt : c x < z := by omega
        refine x_aload dJ1_put_2_196 rfl ?_
        refine x_ifnonnull (t := 123) dJ1_put_2_198 (by decide) (fun x_198 c_198 => ?_) (fun c_198 => ?_)
        · skip
          have hl := ht.rc hxm c_198
          rw [c_198]
          refine x_loc (ls2 := [some (vR (some M)), some (vR (some k)), some (vR (some v)), some (vI 1), some (vR (some x_198)), none, none, some (vR none), some (vR (some k)), none]) (by repeat first | exact trivial | refine ⟨Or.inr rfl, ?_⟩ | refine ⟨Or.inl rfl, ?_⟩) ?_
          refine ih x_198 ⟨hl.1, fun f hf => ?_⟩ ?_
          · have h1 := hin f hf
            have h2 := hcm f hf
            have h3 := hcm2 f hf
            have h4 := fun q => ht.inj (a := f) (b := x) hf hxm q
            refine ⟨fun q => ?_, fun q => h1.2 (by omega)⟩
            by_cases hq : ps f = ps x
            · rw [h4 hq]; exact hlt
            · have := h2.1.mpr (by omega); omega
          · have := ht.2.2.1 x_198 hl.1; omega
        · skip
          refine x_aload_n dJ1_put_2_201 rfl ?_
          refine x_aload_n dJ1_put_2_202 rfl ?_
          refine x_aload_n dJ1_put_2_203 rfl ?_
          refine x_aload dJ1_put_2_204 rfl ?_
          refine x_iload dJ1_put_2_206 rfl ?_
          refine x_if_ge (t := 215) dJ1_put_2_208 (by decide) (by omega) (fun c_208 => ?_) (fun c_208 => absurd (by omega) c_208)
          refine x_iconst dJ1_put_2_215 ?_
          refine g_cw4 (ci := 16) (jc_addEntry (j := ps x + 1) hT2 hk ht hxm (fun f hf => ⟨fun q => by
          by_cases hq : ps f = ps x
          · rw [ht.inj hf hxm hq]; exact hlt
          · have := (hcm f hf).1.mpr (by omega); omega, fun q => (hin f hf).2 (by have := ht.2.2.2.2.2.1 x hxm c_198; omega)⟩) hl2 (Or.inr ⟨rfl, c_198, rfl⟩)) fJ1_addEntry q917 rfl (by decide) (by first | assumption | grind) (by decide) (Nat.le_of_ble_eq_true rfl) (by omega) (by omega) dJ1_put_2_216 (fun h2 n2 hp => ?_)
          refine x_null dJ1_put_2_219 ?_
          refine gp_aret rfl (Or.inl ⟨_, rfl⟩) dJ1_put_2_220 (by omega) (by omega) ?_
          exact ⟨rfl, hp⟩
    · skip
      refine x_aload dJ1_put_2_146 rfl ?_
      refine g_getR 2 (r := _) (ci := 17) (kf := 2) rfl (by decide) (by decide) rfl rfl q898 rfl (by first | assumption | grind) rfl dJ1_put_2_148 ?_
      refine x_astore dJ1_put_2_151 (by decide) ?_
      refine x_goto (t := 196) dJ1_put_2_153 (by decide) ?_
      have hlt : z < c x := hv1.mp (by omega)
      refine x_aload dJ1_put_2_196 rfl ?_
      refine x_ifnonnull (t := 123) dJ1_put_2_198 (by decide) (fun x_198 c_198 => ?_) (fun c_198 => ?_)
      · skip
        have hl := ht.lc hxm c_198
        rw [c_198]
        refine x_loc (ls2 := [some (vR (some M)), some (vR (some k)), some (vR (some v)), some (vI 1), some (vR (some x_198)), none, none, some (vR none), some (vR (some k)), none]) (by repeat first | exact trivial | refine ⟨Or.inr rfl, ?_⟩ | refine ⟨Or.inl rfl, ?_⟩) ?_
        refine ih x_198 ⟨hl.1, fun f hf => ?_⟩ ?_
        · have h1 := hin f hf
          have h2 := hcm f hf
          have h3 := hcm2 f hf
          have h4 := fun q => ht.inj (a := f) (b := x) hf hxm q
          refine ⟨fun q => h1.1 (by omega), fun q => ?_⟩
          by_cases hq : ps f = ps x
          · rw [h4 hq]; exact hlt
          · have := h3.1.mpr (by omega); omega
        · have := ht.2.2.1 x_198 hl.1; omega
      · skip
        refine x_aload_n dJ1_put_2_201 rfl ?_
        refine x_aload_n dJ1_put_2_202 rfl ?_
        refine x_aload_n dJ1_put_2_203 rfl ?_
        refine x_aload dJ1_put_2_204 rfl ?_
        refine x_iload dJ1_put_2_206 rfl ?_
        refine x_if_ge (t := 215) dJ1_put_2_208 (by decide) (by omega) (fun c_208 => absurd c_208 (by omega)) (fun c_208 => ?_)
        refine x_iconst dJ1_put_2_211 ?_
        refine x_goto (t := 216) dJ1_put_2_212 (by decide) ?_
        refine g_cw4 (ci := 16) (jc_addEntry (j := ps x) hT2 hk ht hxm (fun f hf => ⟨fun q => (hin f hf).1 (by have := ht.2.2.2.1 x hxm c_198; omega), fun q => by
        by_cases hq : ps f = ps x
        · rw [ht.inj hf hxm hq]; exact hlt
        · have := (hcm2 f hf).1.mpr (by omega); omega⟩) hl2 (Or.inl ⟨rfl, c_198, rfl⟩)) fJ1_addEntry q917 rfl (by decide) (by first | assumption | grind) (by decide) (Nat.le_of_ble_eq_true rfl) (by omega) (by omega) dJ1_put_2_216 (fun h2 n2 hp => ?_)
        refine x_null dJ1_put_2_219 ?_
        refine gp_aret rfl (Or.inl ⟨_, rfl⟩) dJ1_put_2_220 (by omega) (by omega) ?_
        exact ⟨rfl, hp⟩
  · skip
    have hL := ht.2.2.2.2.2.2.2.2.2.1 c_8
    subst hL
    refine x_aload_n dJ1_put_2_11 rfl ?_
    refine x_aload_n dJ1_put_2_12 rfl ?_
    refine x_aload_n dJ1_put_2_13 rfl ?_
    refine g_cw2 (ci := 16) (jc_addEmpty hT2 hk) fJ1_addEntryToEmptyMap q878 rfl (by decide) (by first | assumption | grind) (by decide) (Nat.le_of_ble_eq_true rfl) (by omega) (by omega) dJ1_put_2_14 (fun h2 n2 hp => ?_)
    refine x_null dJ1_put_2_17 ?_
    refine gp_aret rfl (Or.inl ⟨_, rfl⟩) dJ1_put_2_18 (by omega) (by omega) ?_
    exact ⟨rfl, hp⟩
theorem jc_put (hT : Tm K N I R κ M L c) (hk : Key K N I R κ k z) (hno : ∀ e, e ∈ L → c e ≠ z) (hl2 : L.length < 99999) : gP G yJ1_put cJ1_put 3 ((some (FieldType.object "java/lang/Object"))) 8 1 6 [vR (some M), vR (some k), vR (some v)] (K, N, I, R) nx (PutP K N I R nx κ M L c z v) := by
  have hM := hT.1.1
  refine gP.of (by decide) rfl (Nat.le_of_ble_eq_true rfl) ?_
  refine x_ls (ls2 := [some (vR (some M)), some (vR (some k)), some (vR (some v))]) rfl ?_
  refine x_aload_n dJ1_put_0 rfl ?_
  refine x_aload_n dJ1_put_1 rfl ?_
  refine x_aload_n dJ1_put_2 rfl ?_
  refine x_iconst dJ1_put_3 ?_
  refine g_cv3 (ci := 16) (jc_put2 hT hk hno hl2) fJ1_put_2 q874 rfl (by decide) (by first | assumption | grind) (by decide) (Nat.le_of_ble_eq_true rfl) (by omega) (by omega) dJ1_put_4 (fun v h2 n2 hp => ?_)
  obtain ⟨rfl, hp⟩ := hp
  refine gp_aret rfl (Or.inl ⟨_, rfl⟩) dJ1_put_7 (by omega) (by omega) ?_
  exact ⟨rfl, hp⟩
end TM
