/-! TREES 8: a new entry -/
set_option maxRecDepth 100000
section TM
variable {G : rr_G} {nx : Nat} {K N : Nat → Nat} {I : Nat → Int → Int} {R : Nat → Int → Option Nat} {κ k M v : Nat} {z : Int} {L : List Nat} {c : Nat → Int}
theorem jc_einit {e : Nat} {p : Option Nat} (hK : K e = 17) (h3 : 300 ≤ e) : gW G yJ19_init cJ19_init 4 (none) 1 0 0 [vR (some e), vR (some k), vR (some v), vR p] (K, N, I, R) nx (gEw (K, N, rr_u2 I e 5 1, rr_u2 (rr_u2 (rr_u2 R e 0 (some k)) e 1 (some v)) e 4 p) nx) := by
  refine gW.of (by decide) rfl (Nat.le_of_ble_eq_true rfl) ?_
  refine x_ls (ls2 := [some (vR (some e)), some (vR (some k)), some (vR (some v)), some (vR p)]) rfl ?_
  refine x_aload_n dJ19_init_0 rfl ?_
  refine x_oinit q891 q197 q198 (by decide) (Nat.le_of_ble_eq_true rfl) dJ19_init_1 ?_
  refine x_aload_n dJ19_init_4 rfl ?_
  refine x_iconst dJ19_init_5 ?_
  refine g_putI 5 (ci := 17) (kf := 5) rfl (by decide) (by decide) rfl rfl q902 rfl (by first | assumption | grind) (by first | assumption | omega) (Or.inl rfl) (rr_nar_z (by first | exact Or.inl rfl | exact Or.inr rfl | omega)) dJ19_init_6 ?_
  refine x_aload_n dJ19_init_9 rfl ?_
  refine x_aload_n dJ19_init_10 rfl ?_
  refine g_putR 0 (ci := 17) (kf := 0) rfl (by decide) (by decide) rfl rfl q892 rfl (by first | assumption | grind) (by first | assumption | omega) (Or.inl rfl) dJ19_init_11 ?_
  refine x_aload_n dJ19_init_14 rfl ?_
  refine x_aload_n dJ19_init_15 rfl ?_
  refine g_putR 1 (ci := 17) (kf := 1) rfl (by decide) (by decide) rfl rfl q895 rfl (by first | assumption | grind) (by first | assumption | omega) (Or.inl rfl) dJ19_init_16 ?_
  refine x_aload_n dJ19_init_19 rfl ?_
  refine x_aload_n dJ19_init_20 rfl ?_
  refine g_putR 4 (ci := 17) (kf := 4) rfl (by decide) (by decide) rfl rfl q900 rfl (by first | assumption | grind) (by first | assumption | omega) (Or.inl rfl) dJ19_init_21 ?_
  refine gw_vret rfl dJ19_init_24 (by omega) (by omega) ?_
  exact ⟨rfl, rfl⟩
def PuP (K N : Nat → Nat) (I : Nat → Int → Int) (R : Nat → Int → Option Nat) (nx κ M : Nat) (L : List Nat) (c : Nat → Int) (z : Int) (v : Nat) : rr_H → Nat → Prop := fun h2 n2 => n2 = nx + 1 ∧ ∃ (I2 : Nat → Int → Int) (R2 : Nat → Int → Option Nat) (j : Nat), h2 = (rr_u1 K nx 17, rr_u1 N nx 0, I2, R2) ∧ j ≤ L.length ∧ Tm (rr_u1 K nx 17) (rr_u1 N nx 0) I2 R2 κ M (insA L j nx) (rr_u1 c nx z) ∧ R2 nx 1 = some v ∧ (∀ x, x ≠ nx → x ≠ M → x ∉ L → I2 x = I x ∧ R2 x = R x) ∧ ∀ e, e ∈ L → R2 e 0 = R e 0 ∧ R2 e 1 = R e 1
/-- the map behind a new entry: the pointers I2, R2 that fixAfterInsertion left, size and modCount counted -/
theorem Tm.added {I1 I2 : Nat → Int → Int} {R1 R2 : Nat → Int → Option Nat} {ps lo hi ps2 lo2 hi2 : Nat → Nat} {j : Nat} {m : Int} (hT : Tm K N I R κ M L c) (hlv : ∀ x, K x ≠ 0 → x < nx) (h3 : 300 ≤ nx) (hk : Key K N I R κ k z) (ht : Trr L ps lo hi (fun x => R x 2) (fun x => R x 3) (fun x => R x 4) (R M 3)) (hj : j ≤ L.length) (hlo : ∀ f, f ∈ L → (ps f < j → c f < z) ∧ (j ≤ ps f → z < c f)) (hl2 : L.length < 99999)
    (hI1 : ∀ x, x ≠ nx → I1 x = I x) (hR1 : ∀ x i, x ≠ nx → i ≠ 2 → i ≠ 3 → R1 x i = R x i) (hR1b : ∀ x, x ∉ L → x ≠ nx → R1 x = R x) (hn0 : R1 nx 0 = some k) (hn1 : R1 nx 1 = some v)
    (ht2 : Trr (insA L j nx) ps2 lo2 hi2 (fun x => R2 x 2) (fun x => R2 x 3) (fun x => R2 x 4) (R2 M 3)) (hF : Fx M (insA L j nx) I1 R1 I2 R2) (hcol : ∀ e, e ∈ insA L j nx → I2 e 5 = 0 ∨ I2 e 5 = 1) :
    PuP K N I R nx κ M L c z v (rr_u1 K nx 17, rr_u1 N nx 0, rr_u2 (rr_u2 I2 M 4 (I2 M 4 + 1)) M 5 m, R2) (nx + 1) := by
  have hT2 := hT
  obtain ⟨⟨hM, hM3, hcmp, hsz⟩, -, hE, hsort, hlen⟩ := hT
  have hMx : M ≠ nx := by have := hlv M (by omega); omega
  have hEx : ∀ e, e ∈ L → e ≠ nx ∧ e ≠ M := fun e he => by
    have h1 := (hE e he).1
    have := hlv e (by omega)
    refine ⟨by omega, fun q => ?_⟩
    rw [q] at h1
    omega
  have hML : M ∉ insA L j nx := fun q => by
    rcases insA_mem.mp q with q | q
    · exact hMx q
    · exact (hEx M q).2 rfl
  have hkk : ∀ x, K x ≠ 0 → rr_u1 K nx 17 x = K x ∧ rr_u1 N nx 0 x = N x := fun x hx => by
    have : x ≠ nx := by have := hlv x hx; omega
    simp [rr_u1, this]
  have hother : ∀ x, x ≠ nx → x ≠ M → x ∉ L → rr_u2 (rr_u2 I2 M 4 (I2 M 4 + 1)) M 5 m x = I x ∧ R2 x = R x := fun x g1 g2 g3 => by
    have hxL : x ∉ insA L j nx := fun q => by
      rcases insA_mem.mp q with q | q
      · exact g1 q
      · exact g3 q
    refine ⟨?_, ?_⟩
    · funext i
      rw [rr_u2_ne _ _ (fun q => g2 q.1), rr_u2_ne _ _ (fun q => g2 q.1), hF.1 x hxL, hI1 x g1]
    · rw [hF.2.2.1 x hxL g2, hR1b x g3 g1]
  have hkey : ∀ {k0 : Nat} {z0 : Int}, Key K N I R κ k0 z0 → Key (rr_u1 K nx 17) (rr_u1 N nx 0) (rr_u2 (rr_u2 I2 M 4 (I2 M 4 + 1)) M 5 m) R2 κ k0 z0 := fun {k0 z0} h => h.keep hkk (fun x hx => by
      have g1 : x ≠ nx := by have := hlv x (by omega); omega
      have g2 : x ≠ M := by intro q; rw [q] at hx; omega
      have g3 : x ∉ L := fun q => by have := (hE x q).1; omega
      exact (hother x g1 g2 g3).1) (fun x hx => by
      have g1 : x ≠ nx := by have := hlv x (by omega); omega
      have g2 : x ≠ M := by intro q; rw [q] at hx; omega
      have g3 : x ∉ L := fun q => by have := (hE x q).1; omega
      exact (hother x g1 g2 g3).2)
  refine ⟨rfl, _, R2, j, rfl, hj, ⟨⟨by simp [rr_u1, hMx, hM], hM3, ?_, ?_⟩, ⟨ps2, lo2, hi2, ht2⟩, fun e he => ?_, ?_, ?_⟩, ?_, hother, fun e he => ?_⟩
  · rw [hF.2.2.2.2 2 (by decide), hR1b M (fun q => (hEx M q).2 rfl) hMx]; exact hcmp
  · rw [rr_u2_ne _ _ (by omega), rr_u2_same, hF.1 M hML, hI1 M hMx, hsz, insA_len hj]; simp
  · rcases insA_mem.mp he with q | q
    · subst q
      refine ⟨by simp [rr_u1], h3, ?_, k, ?_, by simp only [rr_u1, if_true]; exact hkey hk⟩
      · rw [rr_u2_ne _ _ (fun q => hMx q.1.symm), rr_u2_ne _ _ (fun q => hMx q.1.symm)]; exact hcol _ he
      · rw [hF.2.2.2.1 _ 0 (by decide) (by decide) (by decide)]; exact hn0
    · obtain ⟨a1, a2, a3, k0, a4, a5⟩ := hE e q
      have hx := hEx e q
      refine ⟨by simp [rr_u1, hx.1, a1], a2, ?_, k0, ?_, by simp only [rr_u1, if_neg hx.1]; exact hkey a5⟩
      · rw [rr_u2_ne _ _ (fun q => hx.2 q.1), rr_u2_ne _ _ (fun q => hx.2 q.1)]; exact hcol _ he
      · rw [hF.2.2.2.1 _ 0 (by decide) (by decide) (by decide), hR1 e 0 hx.1 (by decide) (by decide)]; exact a4
  · intro i i2 a b hi ha hb
    rw [insA_at hj] at ha hb
    have m1 := fun q : L[i]? = some a => List.mem_of_getElem? q
    have m2 := fun q : L[i - 1]? = some a => List.mem_of_getElem? q
    have m3 := fun q : L[i2]? = some b => List.mem_of_getElem? q
    have m4 := fun q : L[i2 - 1]? = some b => List.mem_of_getElem? q
    have s1 := hsort i i2 a b
    have s2 := hsort i (i2 - 1) a b
    have s3 := hsort (i - 1) (i2 - 1) a b
    have p1 := ht.2.1 i a
    have p2 := ht.2.1 (i2 - 1) b
    have l1 := hlo a
    have l2 := hlo b
    have x1 := hEx a
    have x2 := hEx b
    clear hkey hother hkk hcol hF ht2 hsort hE hT2 ht hEx hlo hR1 hR1b hI1 hk hlv
    simp only [rr_u1]
    grind
  · rw [insA_len hj]; omega
  · rw [hF.2.2.2.1 _ 1 (by decide) (by decide) (by decide)]; exact hn1
  · have hx := hEx e he
    rw [hF.2.2.2.1 _ 0 (by decide) (by decide) (by decide), hF.2.2.2.1 _ 1 (by decide) (by decide) (by decide), hR1 e 0 hx.1 (by decide) (by decide), hR1 e 1 hx.1 (by decide) (by decide)]
    exact ⟨rfl, rfl⟩
theorem jc_addEntry {ps lo hi : Nat → Nat} {p j : Nat} {b : Int} (hT : Tm K N I R κ M L c) (hk : Key K N I R κ k z) (ht : Trr L ps lo hi (fun x => R x 2) (fun x => R x 3) (fun x => R x 4) (R M 3)) (hp : p ∈ L) (hlo : ∀ f, f ∈ L → (ps f < j → c f < z) ∧ (j ≤ ps f → z < c f)) (hl2 : L.length < 99999) (hb : (b = 1 ∧ R p 2 = none ∧ j = ps p) ∨ (b = 0 ∧ R p 3 = none ∧ j = ps p + 1)) : gW G yJ1_addEntry cJ1_addEntry 6 (none) 2 1 6 [vR (some M), vR (some k), vR (some v), vR (some p), vI b] (K, N, I, R) nx (PuP K N I R nx κ M L c z v) := by
  have hT2 := hT
  obtain ⟨⟨hM, hM3, hcmp, hsz⟩, -, hE, hsort, hlen⟩ := hT
  refine gW.of (by decide) rfl (Nat.le_of_ble_eq_true rfl) ?_
  refine x_ls (ls2 := [some (vR (some M)), some (vR (some k)), some (vR (some v)), some (vR (some p)), some (vI b), none]) rfl ?_
  refine x_live (fun hlv h3 => ?_)
  have hlv : ∀ x, K x ≠ 0 → x < nx := hlv
  have hMx : M ≠ nx := by have := hlv M (by omega); omega
  have hKp := hE p hp
  have hpx : p ≠ nx := by have := hlv p (by omega); omega
  have hMp : M ≠ p := by intro q; rw [q] at hM; omega
  have hnL : nx ∉ L := fun q => by have := (hE nx q).1; have := hlv nx (by omega); omega
  have hpb := ht.2.2.1 p hp
  have hEn : En (rr_u1 K nx 17) M (insA L j nx) := by
    refine ⟨by simp [rr_u1, hMx, hM], hM3, fun e he => ?_⟩
    rcases insA_mem.mp he with q | q
    · subst q; exact ⟨by simp [rr_u1], h3⟩
    · have h1 := hE e q
      have : e ≠ nx := by have := hlv e (by omega); omega
      exact ⟨by simp [rr_u1, this, h1.1], h1.2.1⟩
  have hcol0 : ∀ e, e ∈ insA L j nx → rr_u2 (rr_u1 I nx (fun _ => 0)) nx 5 1 e 5 = 0 ∨ rr_u2 (rr_u1 I nx (fun _ => 0)) nx 5 1 e 5 = 1 := by
    intro e he
    rcases insA_mem.mp he with q | q
    · subst q; right; simp [rr_u2]
    · have h1 := hE e q
      have : e ≠ nx := by have := hlv e (by omega); omega
      rw [rr_u2_ne _ _ (fun q => this q.1)]
      simp only [rr_u1, if_neg this]
      exact h1.2.2.1
  rcases hb with ⟨rfl, hpl, hj⟩ | ⟨rfl, hpr, hj⟩
  · have htn := (ht.insL (e := nx) hp hnL hpl hj)
    have htn2 : Trr (insA L j nx) (fun x => if x = nx then j else if j ≤ ps x then ps x + 1 else ps x) (fun x => if x = nx then j else if j < lo x then lo x + 1 else lo x) (fun x => if x = nx then j + 1 else if j < hi x then hi x + 1 else hi x) (fun x => rr_u2 (rr_u2 (rr_u2 (rr_u2 (rr_u1 R nx (fun _ => none)) nx 0 (some k)) nx 1 (some v)) nx 4 (some p)) p 2 (some nx) x 2) (fun x => rr_u2 (rr_u2 (rr_u2 (rr_u2 (rr_u1 R nx (fun _ => none)) nx 0 (some k)) nx 1 (some v)) nx 4 (some p)) p 2 (some nx) x 3) (fun x => rr_u2 (rr_u2 (rr_u2 (rr_u2 (rr_u1 R nx (fun _ => none)) nx 0 (some k)) nx 1 (some v)) nx 4 (some p)) p 2 (some nx) x 4) (rr_u2 (rr_u2 (rr_u2 (rr_u2 (rr_u1 R nx (fun _ => none)) nx 0 (some k)) nx 1 (some v)) nx 4 (some p)) p 2 (some nx) M 3) := by
      have e : rr_u2 (rr_u2 (rr_u2 (rr_u2 (rr_u1 R nx (fun _ => none)) nx 0 (some k)) nx 1 (some v)) nx 4 (some p)) p 2 (some nx) M 3 = R M 3 := by simp [rr_u2, rr_u1, hMx]
      rw [e]
      refine htn.congr (fun x hx => ?_)
      by_cases hxn : x = nx
      · simp [hxn, rr_u2, rr_u1, hpx, hpx.symm]
      · by_cases hxp : x = p
        · simp [hxp, rr_u2, rr_u1, hpx]
        · simp [rr_u2, rr_u1, hxn, hxp]
    refine g_new 17 rfl (by decide) q886 q887 q167 (by omega) (by omega) dJ1_addEntry_0 ?_
    refine x_dup dJ1_addEntry_3 rfl ?_
    refine x_aload_n dJ1_addEntry_4 rfl ?_
    refine x_aload_n dJ1_addEntry_5 rfl ?_
    refine x_aload_n dJ1_addEntry_6 rfl ?_
    refine g_ci3 (jc_einit (by simp [rr_u1]) h3) fJ19_init q888 (by decide) (Nat.le_of_ble_eq_true rfl) (by omega) (by omega) dJ1_addEntry_7 (fun h2 n2 hp => ?_)
    obtain ⟨rfl, rfl⟩ := hp
    refine x_astore dJ1_addEntry_10 (by decide) ?_
    refine x_iload dJ1_addEntry_12 rfl ?_
    refine x_if_eq (t := 26) dJ1_addEntry_14 (by decide) (by omega) (fun c_14 => absurd c_14 (by decide)) (fun c_14 => ?_)
    refine x_aload_n dJ1_addEntry_17 rfl ?_
    refine x_aload dJ1_addEntry_18 rfl ?_
    refine g_putR 2 (ci := 17) (kf := 2) rfl (by decide) (by decide) rfl rfl q898 rfl (by simp [rr_u1, hpx, hKp.1]) (by first | assumption | omega) (Or.inl rfl) dJ1_addEntry_20 ?_
    refine x_goto (t := 32) dJ1_addEntry_23 (by decide) ?_
    refine x_aload_n dJ1_addEntry_32 rfl ?_
    refine x_aload dJ1_addEntry_33 rfl ?_
    refine g_cw1 (ci := 16) (jc_fix hEn htn2 hcol0 (insA_mem.mpr (Or.inl rfl))) fJ1_fixAfterInsertion q921 rfl (by decide) (hEn.1) (by decide) (Nat.le_of_ble_eq_true rfl) (by omega) (by omega) dJ1_addEntry_35 (fun h2 n2 hp => ?_)
    obtain ⟨rfl, I2, R2, lo2, hi2, rfl, ht2, hF, hcol⟩ := hp
    refine x_aload_n dJ1_addEntry_38 rfl ?_
    refine x_dup dJ1_addEntry_39 rfl ?_
    refine g_getI 4 (ci := 16) (kf := 4) rfl (by decide) (by decide) rfl rfl q278 rfl (hEn.1) dJ1_addEntry_40 ?_
    refine x_iconst dJ1_addEntry_43 ?_
    refine x_iadd dJ1_addEntry_44 ?_
    refine g_putI 4 (ci := 16) (kf := 4) rfl (by decide) (by decide) rfl rfl q278 rfl (hEn.1) (by first | assumption | omega) (Or.inl rfl) (rr_nar_i _) dJ1_addEntry_45 ?_
    refine x_aload_n dJ1_addEntry_48 rfl ?_
    refine x_dup dJ1_addEntry_49 rfl ?_
    refine g_getI 5 (ci := 16) (kf := 5) rfl (by decide) (by decide) rfl rfl q279 rfl (hEn.1) dJ1_addEntry_50 ?_
    refine x_iconst dJ1_addEntry_53 ?_
    refine x_iadd dJ1_addEntry_54 ?_
    refine g_putI 5 (ci := 16) (kf := 5) rfl (by decide) (by decide) rfl rfl q279 rfl (hEn.1) (by first | assumption | omega) (Or.inl rfl) (rr_nar_i _) dJ1_addEntry_55 ?_
    refine gw_vret rfl dJ1_addEntry_58 (by omega) (by omega) ?_
    refine hT2.added hlv h3 hk ht (by omega) hlo hl2 (I1 := rr_u2 (rr_u1 I nx (fun _ => 0)) nx 5 1) ?_ ?_ ?_ ?_ ?_ ht2 hF hcol
    · intro x hx; funext i; rw [rr_u2_ne _ _ (fun q => hx q.1)]; simp [rr_u1, hx]
    · intro x i hx h2 h3; simp [rr_u2, rr_u1, hx, h2]
    · intro x hx hxn; funext i
      have : x ≠ p := fun q => hx (q ▸ hp)
      simp [rr_u2, rr_u1, hxn, this]
    · simp [rr_u2, hpx.symm]
    · simp [rr_u2, hpx.symm]
  · have htn := (ht.insR (e := nx) hp hnL hpr hj)
    have htn2 : Trr (insA L j nx) (fun x => if x = nx then j else if j ≤ ps x then ps x + 1 else ps x) (fun x => if x = nx then j else if j ≤ lo x then lo x + 1 else lo x) (fun x => if x = nx then j + 1 else if j ≤ hi x then hi x + 1 else hi x) (fun x => rr_u2 (rr_u2 (rr_u2 (rr_u2 (rr_u1 R nx (fun _ => none)) nx 0 (some k)) nx 1 (some v)) nx 4 (some p)) p 3 (some nx) x 2) (fun x => rr_u2 (rr_u2 (rr_u2 (rr_u2 (rr_u1 R nx (fun _ => none)) nx 0 (some k)) nx 1 (some v)) nx 4 (some p)) p 3 (some nx) x 3) (fun x => rr_u2 (rr_u2 (rr_u2 (rr_u2 (rr_u1 R nx (fun _ => none)) nx 0 (some k)) nx 1 (some v)) nx 4 (some p)) p 3 (some nx) x 4) (rr_u2 (rr_u2 (rr_u2 (rr_u2 (rr_u1 R nx (fun _ => none)) nx 0 (some k)) nx 1 (some v)) nx 4 (some p)) p 3 (some nx) M 3) := by
      have e : rr_u2 (rr_u2 (rr_u2 (rr_u2 (rr_u1 R nx (fun _ => none)) nx 0 (some k)) nx 1 (some v)) nx 4 (some p)) p 3 (some nx) M 3 = R M 3 := by simp [rr_u2, rr_u1, hMx, hMp]
      rw [e]
      refine htn.congr (fun x hx => ?_)
      by_cases hxn : x = nx
      · simp [hxn, rr_u2, rr_u1, hpx, hpx.symm]
      · by_cases hxp : x = p
        · simp [hxp, rr_u2, rr_u1, hpx]
        · simp [rr_u2, rr_u1, hxn, hxp]
    refine g_new 17 rfl (by decide) q886 q887 q167 (by omega) (by omega) dJ1_addEntry_0 ?_
    refine x_dup dJ1_addEntry_3 rfl ?_
    refine x_aload_n dJ1_addEntry_4 rfl ?_
    refine x_aload_n dJ1_addEntry_5 rfl ?_
    refine x_aload_n dJ1_addEntry_6 rfl ?_
    refine g_ci3 (jc_einit (by simp [rr_u1]) h3) fJ19_init q888 (by decide) (Nat.le_of_ble_eq_true rfl) (by omega) (by omega) dJ1_addEntry_7 (fun h2 n2 hp => ?_)
    obtain ⟨rfl, rfl⟩ := hp
    refine x_astore dJ1_addEntry_10 (by decide) ?_
    refine x_iload dJ1_addEntry_12 rfl ?_
    refine x_if_eq (t := 26) dJ1_addEntry_14 (by decide) (by omega) (fun c_14 => ?_) (fun c_14 => absurd (rfl) c_14)
    refine x_aload_n dJ1_addEntry_26 rfl ?_
    refine x_aload dJ1_addEntry_27 rfl ?_
    refine g_putR 3 (ci := 17) (kf := 3) rfl (by decide) (by decide) rfl rfl q899 rfl (by simp [rr_u1, hpx, hKp.1]) (by first | assumption | omega) (Or.inl rfl) dJ1_addEntry_29 ?_
    refine x_aload_n dJ1_addEntry_32 rfl ?_
    refine x_aload dJ1_addEntry_33 rfl ?_
    refine g_cw1 (ci := 16) (jc_fix hEn htn2 hcol0 (insA_mem.mpr (Or.inl rfl))) fJ1_fixAfterInsertion q921 rfl (by decide) (hEn.1) (by decide) (Nat.le_of_ble_eq_true rfl) (by omega) (by omega) dJ1_addEntry_35 (fun h2 n2 hp => ?_)
    obtain ⟨rfl, I2, R2, lo2, hi2, rfl, ht2, hF, hcol⟩ := hp
    refine x_aload_n dJ1_addEntry_38 rfl ?_
    refine x_dup dJ1_addEntry_39 rfl ?_
    refine g_getI 4 (ci := 16) (kf := 4) rfl (by decide) (by decide) rfl rfl q278 rfl (hEn.1) dJ1_addEntry_40 ?_
    refine x_iconst dJ1_addEntry_43 ?_
    refine x_iadd dJ1_addEntry_44 ?_
    refine g_putI 4 (ci := 16) (kf := 4) rfl (by decide) (by decide) rfl rfl q278 rfl (hEn.1) (by first | assumption | omega) (Or.inl rfl) (rr_nar_i _) dJ1_addEntry_45 ?_
    refine x_aload_n dJ1_addEntry_48 rfl ?_
    refine x_dup dJ1_addEntry_49 rfl ?_
    refine g_getI 5 (ci := 16) (kf := 5) rfl (by decide) (by decide) rfl rfl q279 rfl (hEn.1) dJ1_addEntry_50 ?_
    refine x_iconst dJ1_addEntry_53 ?_
    refine x_iadd dJ1_addEntry_54 ?_
    refine g_putI 5 (ci := 16) (kf := 5) rfl (by decide) (by decide) rfl rfl q279 rfl (hEn.1) (by first | assumption | omega) (Or.inl rfl) (rr_nar_i _) dJ1_addEntry_55 ?_
    refine gw_vret rfl dJ1_addEntry_58 (by omega) (by omega) ?_
    refine hT2.added hlv h3 hk ht (by omega) hlo hl2 (I1 := rr_u2 (rr_u1 I nx (fun _ => 0)) nx 5 1) ?_ ?_ ?_ ?_ ?_ ht2 hF hcol
    · intro x hx; funext i; rw [rr_u2_ne _ _ (fun q => hx q.1)]; simp [rr_u1, hx]
    · intro x i hx h2 h3; simp [rr_u2, rr_u1, hx, h3]
    · intro x hx hxn; funext i
      have : x ≠ p := fun q => hx (q ▸ hp)
      simp [rr_u2, rr_u1, hxn, this]
    · simp [rr_u2, hpx.symm]
    · simp [rr_u2, hpx.symm]
end TM
