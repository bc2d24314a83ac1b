/-! SYSTEM 7: knows, signsBy, isKnown -/
set_option maxRecDepth 100000
section KN
variable {G : rr_G} {nx : Nat} {K N : Nat → Nat} {I I1 I2 J : Nat → Int → Int} {R : Nat → Int → Option Nat} {T a b : Nat} {k its : Int} {Q : Int → Prop} {v : Int → Int}
theorem lsN_up {n : Int} (hv : ∀ k, 0 ≤ k → k < n → Q k → v k ≠ -1) : ∀ (m : Nat) (lo : Int), 0 ≤ lo → lo + m ≤ n → lsN Q v (m + 1) lo = if lsN Q v m lo = -1 then @ite _ (Q (lo + m)) (Classical.propDecidable _) (v (lo + m)) (-1) else lsN Q v m lo := by
  intro m
  induction m with
  | zero => intro lo _ _; rw [show lo + ((0 : Nat) : Int) = lo by omega]; simp [lsN]
  | succ m ih =>
    intro lo hlo hm
    show @ite _ (Q lo) (Classical.propDecidable _) (v lo) (lsN Q v (m + 1) (lo + 1)) = _
    have e : lsN Q v (m + 1) lo = @ite _ (Q lo) (Classical.propDecidable _) (v lo) (lsN Q v m (lo + 1)) := rfl
    rw [e]
    by_cases hq : Q lo
    · rw [@if_pos _ (Classical.propDecidable _) hq, @if_pos _ (Classical.propDecidable _) hq, if_neg (hv lo hlo (by omega) hq)]
    · rw [@if_neg _ (Classical.propDecidable _) hq, @if_neg _ (Classical.propDecidable _) hq, ih (lo + 1) (by omega) (by omega), show lo + 1 + (m : Int) = lo + ((m + 1 : Nat) : Int) by omega]
noncomputable def kw (Q : Int → Prop) (v : Int → Int) (f : Int) : Int := lsV Q v 0 f
def pp (Q : Int → Prop) (v : Int → Int) (f : Int) : Prop := ∃ g, (0 ≤ g ∧ g < f) ∧ Q g ∧ v g ≠ kw Q v f
theorem kw_0 : kw Q v 0 = -1 := lsV_stop _ _ (Int.le_refl 0)
theorem pp_0 : ¬ pp Q v 0 := fun ⟨g, h, _⟩ => by omega
theorem kw_up {n : Int} (hv : ∀ k, 0 ≤ k → k < n → Q k → v k ≠ -1) {f : Int} (h : 0 ≤ f) (hn : f ≤ n) : kw Q v (f + 1) = if kw Q v f = -1 then @ite _ (Q f) (Classical.propDecidable _) (v f) (-1) else kw Q v f := by
  have := lsN_up hv f.toNat 0 (by omega) (by omega)
  unfold kw lsV
  rw [show (f + 1 - 0).toNat = f.toNat + 1 by omega, this, show (f - 0).toNat = f.toNat by omega, show (0 : Int) + (f.toNat : Int) = f by omega]
theorem kw_none {n : Int} (hv : ∀ k, 0 ≤ k → k < n → Q k → v k ≠ -1) : ∀ (m : Nat), (m : Int) ≤ n → kw Q v m = -1 → ∀ g : Int, 0 ≤ g → g < m → ¬ Q g := by
  intro m
  induction m with
  | zero => intro _ _ g h0 h1; omega
  | succ m ih =>
    intro hmn he g h0 h1 hq
    have e := kw_up hv (f := (m : Int)) (by omega) (by omega)
    rw [show (m : Int) + 1 = ((m + 1 : Nat) : Int) by omega, he] at e
    by_cases h2 : kw Q v m = -1
    · rw [if_pos h2] at e
      by_cases h3 : g = m
      · subst h3
        rw [@if_pos _ (Classical.propDecidable _) hq] at e
        exact hv _ h0 (by omega) hq e.symm
      · exact ih (by omega) h2 g h0 (by omega) hq
    · rw [if_neg h2] at e; exact h2 e.symm
theorem kw_no {n : Int} (hv : ∀ k, 0 ≤ k → k < n → Q k → v k ≠ -1) {f : Int} (h : 0 ≤ f) (hn : f ≤ n) (hq : ¬ Q f) : kw Q v (f + 1) = kw Q v f ∧ (pp Q v (f + 1) ↔ pp Q v f) := by
  have e : kw Q v (f + 1) = kw Q v f := by
    rw [kw_up hv h hn]
    split
    · rename_i h1; first | exact h1.symm | rw [@if_neg _ (Classical.propDecidable _) hq, h1]
    · rfl
  refine ⟨e, ?_, ?_⟩
  · rintro ⟨g, hg, h1, h2⟩
    have : g ≠ f := fun q => hq (q ▸ h1)
    exact ⟨g, by omega, h1, by rw [← e]; exact h2⟩
  · rintro ⟨g, hg, h1, h2⟩
    exact ⟨g, by omega, h1, by rw [e]; exact h2⟩
theorem kw_yes {n : Int} (hv : ∀ k, 0 ≤ k → k < n → Q k → v k ≠ -1) {f : Int} (h : 0 ≤ f) (hn : f ≤ n) (hq : Q f) : kw Q v (f + 1) = (if kw Q v f = -1 then v f else kw Q v f) ∧ (pp Q v (f + 1) ↔ (pp Q v f ∨ (kw Q v f ≠ -1 ∧ kw Q v f ≠ v f))) := by
  have e : kw Q v (f + 1) = (if kw Q v f = -1 then v f else kw Q v f) := by
    rw [kw_up hv h hn, @if_pos _ (Classical.propDecidable _) hq]
  refine ⟨e, ?_⟩
  unfold pp
  by_cases h1 : kw Q v f = -1
  · rw [if_pos h1] at e
    have hn := kw_none hv f.toNat (by omega) (by rw [show ((f.toNat : Nat) : Int) = f by omega]; exact h1)
    rw [show ((f.toNat : Nat) : Int) = f by omega] at hn
    constructor
    · rintro ⟨g, hg, h2, h3⟩
      by_cases h4 : g = f
      · rw [h4, e] at h3; exact absurd rfl h3
      · exact absurd h2 (hn g (by omega) (by omega))
    · rintro (⟨g, hg, h2, h3⟩ | h2)
      · exact absurd h2 (hn g (by omega) (by omega))
      · exact absurd h1 h2.1
  · rw [if_neg h1] at e
    constructor
    · rintro ⟨g, hg, h2, h3⟩
      by_cases h4 : g = f
      · right; rw [h4, e] at h3; exact ⟨h1, fun q => h3 q.symm⟩
      · left; exact ⟨g, by omega, h2, by rw [← e]; exact h3⟩
    · rintro (⟨g, hg, h2, h3⟩ | h2)
      · exact ⟨g, by omega, h2, by rw [e]; exact h3⟩
      · exact ⟨f, by omega, hq, by rw [e]; exact fun q => h2.2 q.symm⟩
/-- the signs and the groups are those of the model -/
def SgM (I J : Nat → Int → Int) (T : Nat) : Prop := I T 0 = J 360 4 ∧ (∀ f, 0 ≤ f → f < J 360 4 → (I 332 f = J 371 f ∧ 0 ≤ J 371 f ∧ J 371 f ≤ f) ∧ J 371 (J 371 f) = J 371 f) ∧ (∀ f, 0 ≤ f → f < 20 → 0 ≤ I 332 f ∧ I 332 f ≤ f) ∧ J 360 4 ≤ 20 ∧ 0 ≤ J 360 4
def GrM (I J : Nat → Int → Int) (a : Nat) (k : Int) : Prop := ∀ g, 0 ≤ g → g < J 360 4 → (I a (J 371 g) = J 383 (20 * k + g) ∧ 0 ≤ J 383 (20 * k + g) ∧ J 383 (20 * k + g) ≤ g)
def GuM (I J : Nat → Int → Int) (T : Nat) : Prop := ∀ f, 0 ≤ f → f < 20 → I (T + 6) f = J 369 (4 + f) ∧ -1 ≤ J 369 (4 + f) ∧ J 369 (4 + f) < 50
theorem jc_isKnown {s : Int} (hs : Ss K N R) (h0 : 0 ≤ s ∧ s < 20) (hr : (-1 ≤ I 348 s ∧ I 348 s < 10) ∧ -1 ≤ I 349 s ∧ I 349 s < 10) : gP G yX0_isKnown cX0_isKnown 2 ((some FieldType.boolean)) 0 0 0 [vR (some 300), vI s] (K, N, I, R) nx (gEq (vI (bi (I 348 s ≠ -1 ∧ I 349 s ≠ -1))) (K, N, I, R) nx) := by
  have hn348 : N 348 = 20 := hs.n 348 (by decide)
  have hn349 : N 349 = 20 := hs.n 349 (by decide)
  refine gP.of (by decide) rfl (Nat.le_of_ble_eq_true rfl) ?_
  refine x_ls (ls2 := [some (vR (some 300)), some (vI s)]) rfl ?_
  refine x_aload_n dX0_isKnown_0 rfl ?_
  refine g_getR 19 (r := some 348) (ci := 1) (kf := 19) rfl (by decide) (by decide) rfl rfl q1327 rfl (hs.k 300 (by decide)) (hs.r 19 (by decide)) dX0_isKnown_1 ?_
  refine x_iload_n dX0_isKnown_4 rfl ?_
  refine g_iald (hs.k 348 (by decide)) rfl (by omega) dX0_isKnown_5 ?_
  refine x_iconst dX0_isKnown_6 ?_
  refine x_icmp_eq (t := 24) dX0_isKnown_7 (by decide) (by omega) (fun c_7 => ?_) (fun c_7 => ?_)
  · skip
    refine x_iconst dX0_isKnown_24 ?_
    refine gp_zret rfl dX0_isKnown_25 (by first | exact Or.inl rfl | exact Or.inr rfl | exact bi_01 _ | omega) (by omega) (by omega) ?_
    exact ⟨by first | rfl | exact rT2 (by omega) | exact rF2 (by omega), rfl, rfl⟩
  · skip
    refine x_aload_n dX0_isKnown_10 rfl ?_
    refine g_getR 20 (r := some 349) (ci := 1) (kf := 20) rfl (by decide) (by decide) rfl rfl q1328 rfl (hs.k 300 (by decide)) (hs.r 20 (by decide)) dX0_isKnown_11 ?_
    refine x_iload_n dX0_isKnown_14 rfl ?_
    refine g_iald (hs.k 349 (by decide)) rfl (by omega) dX0_isKnown_15 ?_
    refine x_iconst dX0_isKnown_16 ?_
    refine x_icmp_eq (t := 24) dX0_isKnown_17 (by decide) (by omega) (fun c_17 => ?_) (fun c_17 => ?_)
    · skip
      refine x_iconst dX0_isKnown_24 ?_
      refine gp_zret rfl dX0_isKnown_25 (by first | exact Or.inl rfl | exact Or.inr rfl | exact bi_01 _ | omega) (by omega) (by omega) ?_
      exact ⟨by first | rfl | exact rT2 (by omega) | exact rF2 (by omega), rfl, rfl⟩
    · skip
      refine x_iconst dX0_isKnown_20 ?_
      refine x_goto (t := 25) dX0_isKnown_21 (by decide) ?_
      refine gp_zret rfl dX0_isKnown_25 (by first | exact Or.inl rfl | exact Or.inr rfl | exact bi_01 _ | omega) (by omega) (by omega) ?_
      exact ⟨by first | rfl | exact rT2 (by omega) | exact rF2 (by omega), rfl, rfl⟩
/-- behind knows -/
def KwP (I J : Nat → Int → Int) (k its : Int) (b : Nat) (w : rr_V) (I2 : Nat → Int → Int) : Prop := w = vI (bi (pp (gsd J k its) (fun g => partOf (J 369 (4 + g)) k) (J 360 4))) ∧ (∀ x, x ≠ b → I2 x = I x) ∧ ∀ s, 0 ≤ s → s < J 360 4 → I2 b s = @ite _ (J 371 s = s ∧ J 383 (20 * k + s) = its) (Classical.propDecidable _) (knV J k its) (I b s)
def KwQ (I J : Nat → Int → Int) (k its : Int) (b : Nat) (q : Int) (I2 : Nat → Int → Int) : Prop := (∀ x, x ≠ b → I2 x = I x) ∧ ∀ s, 0 ≤ s → s < 20 → I2 b s = @ite _ (s < q ∧ J 371 s = s ∧ J 383 (20 * k + s) = its) (Classical.propDecidable _) (knV J k its) (I b s)
theorem ite_c {α : Type} {P Q : Prop} {x y : α} (h : P ↔ Q) : @ite _ P (Classical.propDecidable _) x y = @ite _ Q (Classical.propDecidable _) x y := by
  by_cases hp : P
  · rw [@if_pos _ (Classical.propDecidable _) hp, @if_pos _ (Classical.propDecidable _) (h.mp hp)]
  · rw [@if_neg _ (Classical.propDecidable _) hp, @if_neg _ (Classical.propDecidable _) (fun q => hp (h.mpr q))]
theorem KwQ.no {q : Int} (h : KwQ I J k its b q I1) (hn : ¬ (J 371 q = q ∧ J 383 (20 * k + q) = its)) : KwQ I J k its b (q + 1) I1 := by
  refine ⟨h.1, fun s h0 h1 => ?_⟩
  rw [h.2 s h0 h1]
  refine ite_c ⟨fun w => ⟨by omega, w.2⟩, fun w => ⟨?_, w.2⟩⟩
  have : s ≠ q := fun e => hn (e ▸ w.2)
  omega
theorem KwQ.yes {q : Int} (h : KwQ I J k its b q I1) (hq : 0 ≤ q ∧ q < 20) (hn : J 371 q = q ∧ J 383 (20 * k + q) = its) : KwQ I J k its b (q + 1) (rr_u2 I1 b q (knV J k its)) := by
  refine ⟨fun x hx => by rw [rr_u2_of hx]; exact h.1 x hx, fun s h0 h1 => ?_⟩
  rw [rr_u2_upA]
  by_cases e : s = q
  · subst e
    rw [upA_s, @if_pos _ (Classical.propDecidable _) ⟨by omega, hn⟩]
  · rw [upA_n _ _ e, h.2 s h0 h1]
    exact ite_c ⟨fun w => ⟨by omega, w.2⟩, fun w => ⟨by omega, w.2⟩⟩
theorem jc_knows (hs : Ss K N R) (ht : Td K N R T) (hk : (k = 0 ∧ a = 333 ∧ b = 348) ∨ (k = 1 ∧ a = 334 ∧ b = 349)) (hg : SgM I J T) (hgr : GrM I J a k) (hgu : GuM I J T) (hi : (0 ≤ its ∧ its < J 360 4) ∧ J 383 (20 * k + its) = its) : gP G yX0_knows cX0_knows 9 ((some FieldType.boolean)) 3 0 0 [vR (some 300), vR (some a), vI its, vI k, vR (some b)] (K, N, I, R) nx (gIv K N R nx (KwP I J k its b)) := by
  have hn332 : N 332 = 20 := hs.n 332 (by decide)
  have hnT6 : N (T + 6) = 20 := ht.n 6 (by decide)
  have hTb : ∀ i, i < 7 → T + i ≠ b := fun i hi => ht.ne i hi (by omega)
  have hTb0 : T ≠ b := by have := hTb 0 (by decide); omega
  have hKa : K a = 64 := by rcases hk with ⟨-, rfl, -⟩ | ⟨-, rfl, -⟩ <;> exact hs.k _ (by decide)
  have hNa : N a = 20 := by rcases hk with ⟨-, rfl, -⟩ | ⟨-, rfl, -⟩ <;> exact hs.n _ (by decide)
  have hKb : K b = 64 := by rcases hk with ⟨-, -, rfl⟩ | ⟨-, -, rfl⟩ <;> exact hs.k _ (by decide)
  have hNb : N b = 20 := by rcases hk with ⟨-, -, rfl⟩ | ⟨-, -, rfl⟩ <;> exact hs.n _ (by decide)
  obtain ⟨hT0, hsg, hsr, hn20, hn0⟩ := hg
  have hpo : ∀ g, 0 ≤ g → g < J 360 4 → gsd J k its g → 0 ≤ partOf (J 369 (4 + g)) k ∧ partOf (J 369 (4 + g)) k < 10 := fun g h0 h1 hq => partOf_in (by have := hgu g h0 (by omega); have := hq.1; omega)
  have hv : ∀ g, 0 ≤ g → g < J 360 4 → gsd J k its g → (fun g => partOf (J 369 (4 + g)) k) g ≠ -1 := fun g h0 h1 hq => by have := hpo g h0 h1 hq; simp only; omega
  have hcl : ∀ g, 0 ≤ g → g < J 360 4 → (gsd J k its g ↔ (J 369 (4 + g) ≠ -1 ∧ I a (I 332 g) = its)) := fun g h0 h1 => by
    unfold gsd sh
    rw [hi.2, (hsg g h0 h1).1.1, (hgr g h0 h1).1]
  have hkr : ∀ q, 0 ≤ q → q ≤ J 360 4 → -1 ≤ kw (gsd J k its) (fun g => partOf (J 369 (4 + g)) k) q ∧ kw (gsd J k its) (fun g => partOf (J 369 (4 + g)) k) q < 10 := fun q q0 q1 => lsV_in _ _ (fun g g0 g1 hq => hpo g g0 (by omega) hq)
  refine gP.of (by decide) rfl (Nat.le_of_ble_eq_true rfl) ?_
  refine x_ls (ls2 := [some (vR (some 300)), some (vR (some a)), some (vI its), some (vI k), some (vR (some b)), none, none, none, none]) rfl ?_
  refine x_iconst dX0_knows_0 ?_
  refine x_istore dX0_knows_1 (by decide) ?_
  refine x_iconst dX0_knows_3 ?_
  refine x_istore dX0_knows_4 (by decide) ?_
  refine x_iconst dX0_knows_6 ?_
  refine x_istore dX0_knows_7 (by decide) ?_
  refine x_loc (ls2 := [some (vR (some 300)), some (vR (some a)), some (vI its), some (vI k), some (vR (some b)), some (vI (kw (gsd J k its) (fun g => partOf (J 369 (4 + g)) k) 0)), some (vI (bi (pp (gsd J k its) (fun g => partOf (J 369 (4 + g)) k) 0))), some (vI 0), none]) (by rw [kw_0, bi_f pp_0]; exact (by repeat first | exact trivial | refine ⟨Or.inr rfl, ?_⟩ | refine ⟨Or.inl rfl, ?_⟩)) ?_
  refine s_for (W := fun (q : Int) (z : Option rr_V) => gp G yX0_knows cX0_knows 9 ((some FieldType.boolean)) 3 0 0 (gIv K N R nx (KwP I J k its b)) 9 [some (vR (some 300)), some (vR (some a)), some (vI its), some (vI k), some (vR (some b)), some (vI (kw (gsd J k its) (fun g => partOf (J 369 (4 + g)) k) q)), some (vI (bi (pp (gsd J k its) (fun g => partOf (J 369 (4 + g)) k) q))), some (vI q), z] [] (K, N, I, R) nx 0 0) (fun _ _ => True) 0 (J 360 4) none (by omega) trivial ?_
  rintro q z h0 hq - ih
  have hkq := hkr q h0 hq
  have hbq := bi_01 (pp (gsd J k its) (fun g => partOf (J 369 (4 + g)) k) q)
  have hun := kw_no hv h0 hq
  have hye := kw_yes hv h0 hq
  have hgq := hgu q h0
  have hcq := hcl q h0
  have hsq := hsg q h0
  have hgrq := hgr q h0
  have hpq := hpo q h0
  have hbp : bi (pp (gsd J k its) (fun g => partOf (J 369 (4 + g)) k) q) ≠ 0 → pp (gsd J k its) (fun g => partOf (J 369 (4 + g)) k) q := fun h => Classical.byContradiction (fun hn => h (bi_f hn))
  have hbn : bi (pp (gsd J k its) (fun g => partOf (J 369 (4 + g)) k) q) = 0 → ¬ pp (gsd J k its) (fun g => partOf (J 369 (4 + g)) k) q := fun h hp => by rw [bi_t hp] at h; omega
  have mid : gsd J k its q → q < J 360 4 → gp G yX0_knows cX0_knows 9 ((some FieldType.boolean)) 3 0 0 (gIv K N R nx (KwP I J k its b)) 84 [some (vR (some 300)), some (vR (some a)), some (vI its), some (vI k), some (vR (some b)), some (vI (kw (gsd J k its) (fun g => partOf (J 369 (4 + g)) k) q)), some (vI (bi (pp (gsd J k its) (fun g => partOf (J 369 (4 + g)) k) q))), some (vI q), some (vI (partOf (J 369 (4 + q)) k))] [] (K, N, I, R) nx 0 0 := by
    intro hQ hq4
    replace hye := hye hQ
    replace hpq := hpq hq4 hQ
    refine x_iload dX0_knows_84 rfl ?_
    refine x_if_ne (t := 102) dX0_knows_86 (by decide) (by omega) (fun c_86 => ?_) (fun c_86 => ?_)
    · skip
      refine x_iconst dX0_knows_102 ?_
      refine x_goto (t := 107) dX0_knows_103 (by decide) ?_
      refine x_top (bi (pp (gsd J k its) (fun g => partOf (J 369 (4 + g)) k) (q + 1))) (by first | exact (bi_t (hye.2.mpr (Or.inl (hbp c_86)))).symm | exact (bi_t (hye.2.mpr (Or.inr ⟨c_92, c_99⟩))).symm | exact (bi_f (fun w => (hye.2.mp w).elim (hbn (by omega)) (fun w2 => w2.1 c_92))).symm | exact (bi_f (fun w => (hye.2.mp w).elim (hbn (by omega)) (fun w2 => w2.2 c_99))).symm) ?_
      refine x_istore dX0_knows_107 (by decide) ?_
      refine x_iload dX0_knows_109 rfl ?_
      refine x_iconst dX0_knows_111 ?_
      refine x_icmp_ne (t := 120) dX0_knows_112 (by decide) (by omega) (fun c_112 => ?_) (fun c_112 => ?_)
      · skip
        refine x_iload dX0_knows_120 rfl ?_
        refine x_top (kw (gsd J k its) (fun g => partOf (J 369 (4 + g)) k) (q + 1)) (by rw [hye.1]; first | (exfalso; omega) | rw [if_pos (by omega)] | rw [if_neg (by omega)]) ?_
        refine x_istore dX0_knows_122 (by decide) ?_
        refine x_iinc dX0_knows_124 rfl (by decide) ?_
        refine x_goto (t := 9) dX0_knows_127 (by decide) ?_
        exact ih _ hq4 trivial
      · skip
        refine x_iload dX0_knows_115 rfl ?_
        refine x_goto (t := 122) dX0_knows_117 (by decide) ?_
        refine x_top (kw (gsd J k its) (fun g => partOf (J 369 (4 + g)) k) (q + 1)) (by rw [hye.1]; first | (exfalso; omega) | rw [if_pos (by omega)] | rw [if_neg (by omega)]) ?_
        refine x_istore dX0_knows_122 (by decide) ?_
        refine x_iinc dX0_knows_124 rfl (by decide) ?_
        refine x_goto (t := 9) dX0_knows_127 (by decide) ?_
        exact ih _ hq4 trivial
    · skip
      refine x_iload dX0_knows_89 rfl ?_
      refine x_iconst dX0_knows_91 ?_
      refine x_icmp_eq (t := 106) dX0_knows_92 (by decide) (by omega) (fun c_92 => ?_) (fun c_92 => ?_)
      · skip
        refine x_iconst dX0_knows_106 ?_
        refine x_top (bi (pp (gsd J k its) (fun g => partOf (J 369 (4 + g)) k) (q + 1))) (by first | exact (bi_t (hye.2.mpr (Or.inl (hbp c_86)))).symm | exact (bi_t (hye.2.mpr (Or.inr ⟨c_92, c_99⟩))).symm | exact (bi_f (fun w => (hye.2.mp w).elim (hbn (by omega)) (fun w2 => w2.1 c_92))).symm | exact (bi_f (fun w => (hye.2.mp w).elim (hbn (by omega)) (fun w2 => w2.2 c_99))).symm) ?_
        refine x_istore dX0_knows_107 (by decide) ?_
        refine x_iload dX0_knows_109 rfl ?_
        refine x_iconst dX0_knows_111 ?_
        refine x_icmp_ne (t := 120) dX0_knows_112 (by decide) (by omega) (fun c_112 => ?_) (fun c_112 => ?_)
        · skip
          refine x_iload dX0_knows_120 rfl ?_
          refine x_top (kw (gsd J k its) (fun g => partOf (J 369 (4 + g)) k) (q + 1)) (by rw [hye.1]; first | (exfalso; omega) | rw [if_pos (by omega)] | rw [if_neg (by omega)]) ?_
          refine x_istore dX0_knows_122 (by decide) ?_
          refine x_iinc dX0_knows_124 rfl (by decide) ?_
          refine x_goto (t := 9) dX0_knows_127 (by decide) ?_
          exact ih _ hq4 trivial
        · skip
          refine x_iload dX0_knows_115 rfl ?_
          refine x_goto (t := 122) dX0_knows_117 (by decide) ?_
          refine x_top (kw (gsd J k its) (fun g => partOf (J 369 (4 + g)) k) (q + 1)) (by rw [hye.1]; first | (exfalso; omega) | rw [if_pos (by omega)] | rw [if_neg (by omega)]) ?_
          refine x_istore dX0_knows_122 (by decide) ?_
          refine x_iinc dX0_knows_124 rfl (by decide) ?_
          refine x_goto (t := 9) dX0_knows_127 (by decide) ?_
          exact ih _ hq4 trivial
      · skip
        refine x_iload dX0_knows_95 rfl ?_
        refine x_iload dX0_knows_97 rfl ?_
        refine x_icmp_eq (t := 106) dX0_knows_99 (by decide) (by omega) (fun c_99 => ?_) (fun c_99 => ?_)
        · skip
          refine x_iconst dX0_knows_106 ?_
          refine x_top (bi (pp (gsd J k its) (fun g => partOf (J 369 (4 + g)) k) (q + 1))) (by first | exact (bi_t (hye.2.mpr (Or.inl (hbp c_86)))).symm | exact (bi_t (hye.2.mpr (Or.inr ⟨c_92, c_99⟩))).symm | exact (bi_f (fun w => (hye.2.mp w).elim (hbn (by omega)) (fun w2 => w2.1 c_92))).symm | exact (bi_f (fun w => (hye.2.mp w).elim (hbn (by omega)) (fun w2 => w2.2 c_99))).symm) ?_
          refine x_istore dX0_knows_107 (by decide) ?_
          refine x_iload dX0_knows_109 rfl ?_
          refine x_iconst dX0_knows_111 ?_
          refine x_icmp_ne (t := 120) dX0_knows_112 (by decide) (by omega) (fun c_112 => ?_) (fun c_112 => ?_)
          · skip
            refine x_iload dX0_knows_120 rfl ?_
            refine x_top (kw (gsd J k its) (fun g => partOf (J 369 (4 + g)) k) (q + 1)) (by rw [hye.1]; first | (exfalso; omega) | rw [if_pos (by omega)] | rw [if_neg (by omega)]) ?_
            refine x_istore dX0_knows_122 (by decide) ?_
            refine x_iinc dX0_knows_124 rfl (by decide) ?_
            refine x_goto (t := 9) dX0_knows_127 (by decide) ?_
            exact ih _ hq4 trivial
          · skip
            refine x_iload dX0_knows_115 rfl ?_
            refine x_goto (t := 122) dX0_knows_117 (by decide) ?_
            refine x_top (kw (gsd J k its) (fun g => partOf (J 369 (4 + g)) k) (q + 1)) (by rw [hye.1]; first | (exfalso; omega) | rw [if_pos (by omega)] | rw [if_neg (by omega)]) ?_
            refine x_istore dX0_knows_122 (by decide) ?_
            refine x_iinc dX0_knows_124 rfl (by decide) ?_
            refine x_goto (t := 9) dX0_knows_127 (by decide) ?_
            exact ih _ hq4 trivial
        · skip
          refine x_iconst dX0_knows_102 ?_
          refine x_goto (t := 107) dX0_knows_103 (by decide) ?_
          refine x_top (bi (pp (gsd J k its) (fun g => partOf (J 369 (4 + g)) k) (q + 1))) (by first | exact (bi_t (hye.2.mpr (Or.inl (hbp c_86)))).symm | exact (bi_t (hye.2.mpr (Or.inr ⟨c_92, c_99⟩))).symm | exact (bi_f (fun w => (hye.2.mp w).elim (hbn (by omega)) (fun w2 => w2.1 c_92))).symm | exact (bi_f (fun w => (hye.2.mp w).elim (hbn (by omega)) (fun w2 => w2.2 c_99))).symm) ?_
          refine x_istore dX0_knows_107 (by decide) ?_
          refine x_iload dX0_knows_109 rfl ?_
          refine x_iconst dX0_knows_111 ?_
          refine x_icmp_ne (t := 120) dX0_knows_112 (by decide) (by omega) (fun c_112 => ?_) (fun c_112 => ?_)
          · skip
            refine x_iload dX0_knows_120 rfl ?_
            refine x_top (kw (gsd J k its) (fun g => partOf (J 369 (4 + g)) k) (q + 1)) (by rw [hye.1]; first | (exfalso; omega) | rw [if_pos (by omega)] | rw [if_neg (by omega)]) ?_
            refine x_istore dX0_knows_122 (by decide) ?_
            refine x_iinc dX0_knows_124 rfl (by decide) ?_
            refine x_goto (t := 9) dX0_knows_127 (by decide) ?_
            exact ih _ hq4 trivial
          · skip
            refine x_iload dX0_knows_115 rfl ?_
            refine x_goto (t := 122) dX0_knows_117 (by decide) ?_
            refine x_top (kw (gsd J k its) (fun g => partOf (J 369 (4 + g)) k) (q + 1)) (by rw [hye.1]; first | (exfalso; omega) | rw [if_pos (by omega)] | rw [if_neg (by omega)]) ?_
            refine x_istore dX0_knows_122 (by decide) ?_
            refine x_iinc dX0_knows_124 rfl (by decide) ?_
            refine x_goto (t := 9) dX0_knows_127 (by decide) ?_
            exact ih _ hq4 trivial
  refine x_iload dX0_knows_9 rfl ?_
  refine x_aload_n dX0_knows_11 rfl ?_
  refine g_getR 2 (r := some T) (ci := 1) (kf := 2) rfl (by decide) (by decide) rfl rfl q1307 rfl (hs.k 300 (by decide)) (ht.t) dX0_knows_12 ?_
  refine g_getIN 0 (ci := 3) (kf := 0) rfl (by decide) (by decide) rfl rfl q210 rfl (ht.k) dX0_knows_15 ?_
  rw [hT0]
  refine x_icmp_ge (t := 130) dX0_knows_18 (by decide) (by omega) (fun c_18 => ?_) (fun c_18 => ?_)
  · skip
    refine x_iconst dX0_knows_130 ?_
    refine x_istore dX0_knows_131 (by decide) ?_
    have hqe : q = J 360 4 := by omega
    subst hqe
    refine x_ls (ls2 := [some (vR (some 300)), some (vR (some a)), some (vI its), some (vI k), some (vR (some b)), some (vI (kw (gsd J k its) (fun g => partOf (J 369 (4 + g)) k) (J 360 4))), some (vI (bi (pp (gsd J k its) (fun g => partOf (J 369 (4 + g)) k) (J 360 4)))), some (vI 0), z]) rfl ?_
    refine s_for (W := fun (q : Int) (I1 : Nat → Int → Int) => gp G yX0_knows cX0_knows 9 ((some FieldType.boolean)) 3 0 0 (gIv K N R nx (KwP I J k its b)) 133 [some (vR (some 300)), some (vR (some a)), some (vI its), some (vI k), some (vR (some b)), some (vI (kw (gsd J k its) (fun g => partOf (J 369 (4 + g)) k) (J 360 4))), some (vI (bi (pp (gsd J k its) (fun g => partOf (J 369 (4 + g)) k) (J 360 4)))), some (vI q), z] [] (K, N, I1, R) nx 0 0) (fun q I1 => KwQ I J k its b q I1) 0 (J 360 4) I (by omega) ⟨fun _ _ => rfl, fun s h1 h2 => by rw [@if_neg _ (Classical.propDecidable _) (fun w => by omega)]⟩ ?_
    intro q I1 hq0 hq1 hI1 ih2
    have e332 : I1 332 = I 332 := hI1.1 332 (by omega)
    have eT : I1 T = I T := hI1.1 T hTb0
    have ea : I1 a = I a := hI1.1 a (by omega)
    have hfI : 0 ≤ I1 T 0 ∧ I1 T 0 ≤ 20 := by rw [eT, hT0]; omega
    have hsr1 : ∀ f, 0 ≤ f → f < 20 → 0 ≤ I1 332 f ∧ I1 332 f ≤ f := by rw [e332]; exact hsr
    refine x_iload dX0_knows_133 rfl ?_
    refine x_aload_n dX0_knows_135 rfl ?_
    refine g_getR 2 (r := some T) (ci := 1) (kf := 2) rfl (by decide) (by decide) rfl rfl q1307 rfl (hs.k 300 (by decide)) (ht.t) dX0_knows_136 ?_
    refine g_getIN 0 (ci := 3) (kf := 0) rfl (by decide) (by decide) rfl rfl q210 rfl (ht.k) dX0_knows_139 ?_
    rw [eT, hT0]
    refine x_icmp_ge (t := 175) dX0_knows_142 (by decide) (by omega) (fun c_142 => ?_) (fun c_142 => ?_)
    · skip
      refine x_iload dX0_knows_175 rfl ?_
      refine gp_zret rfl dX0_knows_177 (by first | exact Or.inl rfl | exact Or.inr rfl | exact bi_01 _ | omega) (by omega) (by omega) ?_
      exact ⟨rfl, I1, rfl, rfl, hI1.1, fun s s0 s1 => by rw [hI1.2 s s0 (by omega)]; exact ite_c (by constructor; exact fun w => w.2; exact fun w => ⟨by omega, w⟩)⟩
    · skip
      refine x_aload_n dX0_knows_145 rfl ?_
      refine x_iload dX0_knows_146 rfl ?_
      refine g_cv1 (ci := 1) (jc_isSign hs ht hfI (by omega) hsr1) fX0_isSign q1280 rfl (by decide) (hs.k 300 (by decide)) (by decide) (Nat.le_of_ble_eq_true rfl) (by omega) (by omega) dX0_knows_148 (fun v h2 n2 hp => ?_)
      obtain ⟨rfl, rfl, rfl⟩ := hp
      refine x_if_eq_b (t := 169) dX0_knows_151 (by decide) (fun c_151 => ?_) (fun c_151 => ?_)
      · skip
        rw [e332, eT, hT0] at c_151
        have hno : ¬ (J 371 q = q ∧ J 383 (20 * k + q) = its) := fun w => c_151 ⟨by omega, by rw [(hsg q hq0 (by omega)).1.1]; exact w.1⟩
        refine x_iinc dX0_knows_169 rfl (by decide) ?_
        refine x_goto (t := 133) dX0_knows_172 (by decide) ?_
        exact ih2 _ (by omega) (hI1.no hno)
      · skip
        rw [e332, eT, hT0] at c_151
        have hsn : J 371 q = q := by rw [← (hsg q hq0 (by omega)).1.1]; exact c_151.2
        have hga := hgr q hq0 (by omega)
        rw [hsn] at hga
        refine x_aload_n dX0_knows_154 rfl ?_
        refine x_iload dX0_knows_155 rfl ?_
        refine g_iald (hKa) rfl (by omega) dX0_knows_157 ?_
        rw [ea, hga.1]
        refine x_iload_n dX0_knows_158 rfl ?_
        refine x_icmp_ne (t := 169) dX0_knows_159 (by decide) (by omega) (fun c_159 => ?_) (fun c_159 => ?_)
        · skip
          refine x_iinc dX0_knows_169 rfl (by decide) ?_
          refine x_goto (t := 133) dX0_knows_172 (by decide) ?_
          exact ih2 _ (by omega) (hI1.no (fun w => c_159 w.2))
        · skip
          refine x_aload dX0_knows_162 rfl ?_
          refine x_iload dX0_knows_164 rfl ?_
          refine x_iload dX0_knows_166 rfl ?_
          refine g_iast (hKb) (by omega) rfl (by omega) dX0_knows_168 ?_
          refine x_iinc dX0_knows_169 rfl (by decide) ?_
          refine x_goto (t := 133) dX0_knows_172 (by decide) ?_
          exact ih2 _ (by omega) (hI1.yes (by omega) ⟨hsn, by omega⟩)
  · skip
    have hq4 : q < J 360 4 := by omega
    replace hgq := hgq (by omega)
    replace hcq := hcq hq4
    replace hsq := hsq hq4
    replace hgrq := hgrq hq4
    rw [hsq.1.1, hgrq.1] at hcq
    refine x_aload_n dX0_knows_21 rfl ?_
    refine g_getR 2 (r := some T) (ci := 1) (kf := 2) rfl (by decide) (by decide) rfl rfl q1307 rfl (hs.k 300 (by decide)) (ht.t) dX0_knows_22 ?_
    refine g_getRN 11 (r := some (T + 6)) (ci := 3) (kf := 11) rfl (by decide) (by decide) rfl rfl q231 rfl (ht.k) (ht.r 11 (by decide)) dX0_knows_25 ?_
    refine x_iload dX0_knows_28 rfl ?_
    refine g_iald (ht.a 6 (by decide)) rfl (by omega) dX0_knows_30 ?_
    rw [hgq.1]
    refine x_iconst dX0_knows_31 ?_
    refine x_icmp_eq (t := 124) dX0_knows_32 (by decide) (by omega) (fun c_32 => ?_) (fun c_32 => ?_)
    · skip
      refine x_iinc dX0_knows_124 rfl (by decide) ?_
      refine x_goto (t := 9) dX0_knows_127 (by decide) ?_
      have hQ : ¬ gsd J k its q := fun w => (hcq.mp w).1 c_32
      exact x_loc (by rw [← (hun hQ).1, ← bi_iff (hun hQ).2]; exact (by repeat first | exact trivial | refine ⟨Or.inr rfl, ?_⟩ | refine ⟨Or.inl rfl, ?_⟩)) (ih _ hq4 trivial)
    · skip
      refine x_aload_n dX0_knows_35 rfl ?_
      refine x_aload_n dX0_knows_36 rfl ?_
      refine g_getR 8 (r := some 332) (ci := 1) (kf := 8) rfl (by decide) (by decide) rfl rfl q1316 rfl (hs.k 300 (by decide)) (hs.r 8 (by decide)) dX0_knows_37 ?_
      refine x_iload dX0_knows_40 rfl ?_
      refine g_iald (hs.k 332 (by decide)) rfl (by omega) dX0_knows_42 ?_
      rw [hsq.1.1]
      refine g_iald (hKa) rfl (by omega) dX0_knows_43 ?_
      rw [hgrq.1]
      refine x_iload_n dX0_knows_44 rfl ?_
      refine x_icmp_eq (t := 51) dX0_knows_45 (by decide) (by omega) (fun c_45 => ?_) (fun c_45 => ?_)
      · skip
        have hQ : gsd J k its q := hcq.mpr ⟨c_32, c_45⟩
        refine x_iload_n dX0_knows_51 rfl ?_
        refine x_if_ne (t := 70) dX0_knows_52 (by decide) (by omega) (fun c_52 => ?_) (fun c_52 => ?_)
        · skip
          refine x_aload_n dX0_knows_70 rfl ?_
          refine g_getR 2 (r := some T) (ci := 1) (kf := 2) rfl (by decide) (by decide) rfl rfl q1307 rfl (hs.k 300 (by decide)) (ht.t) dX0_knows_71 ?_
          refine g_getRN 11 (r := some (T + 6)) (ci := 3) (kf := 11) rfl (by decide) (by decide) rfl rfl q231 rfl (ht.k) (ht.r 11 (by decide)) dX0_knows_74 ?_
          refine x_iload dX0_knows_77 rfl ?_
          refine g_iald (ht.a 6 (by decide)) rfl (by omega) dX0_knows_79 ?_
          rw [hgq.1]
          refine x_iconst dX0_knows_80 ?_
          refine x_irem dX0_knows_81 (by omega) (by omega) ?_
          refine x_top (partOf (J 369 (4 + q)) k) (by unfold partOf; first | rw [if_pos (by omega)] | rw [if_neg (by omega)]) ?_
          refine x_istore dX0_knows_82 (by decide) ?_
          exact mid hQ hq4
        · skip
          refine x_aload_n dX0_knows_55 rfl ?_
          refine g_getR 2 (r := some T) (ci := 1) (kf := 2) rfl (by decide) (by decide) rfl rfl q1307 rfl (hs.k 300 (by decide)) (ht.t) dX0_knows_56 ?_
          refine g_getRN 11 (r := some (T + 6)) (ci := 3) (kf := 11) rfl (by decide) (by decide) rfl rfl q231 rfl (ht.k) (ht.r 11 (by decide)) dX0_knows_59 ?_
          refine x_iload dX0_knows_62 rfl ?_
          refine g_iald (ht.a 6 (by decide)) rfl (by omega) dX0_knows_64 ?_
          rw [hgq.1]
          refine x_iconst dX0_knows_65 ?_
          refine x_idiv dX0_knows_66 (by omega) (by omega) ?_
          refine x_goto (t := 82) dX0_knows_67 (by decide) ?_
          refine x_top (partOf (J 369 (4 + q)) k) (by unfold partOf; first | rw [if_pos (by omega)] | rw [if_neg (by omega)]) ?_
          refine x_istore dX0_knows_82 (by decide) ?_
          exact mid hQ hq4
      · skip
        refine x_goto (t := 124) dX0_knows_48 (by decide) ?_
        refine x_iinc dX0_knows_124 rfl (by decide) ?_
        refine x_goto (t := 9) dX0_knows_127 (by decide) ?_
        have hQ : ¬ gsd J k its q := fun w => c_45 (hcq.mp w).2
        exact x_loc (by rw [← (hun hQ).1, ← bi_iff (hun hQ).2]; exact (by repeat first | exact trivial | refine ⟨Or.inr rfl, ?_⟩ | refine ⟨Or.inl rfl, ?_⟩)) (ih _ hq4 trivial)
end KN
