/-! SYSTEM 8: signsBy, laysKnown -/
set_option maxRecDepth 100000
section KN
variable {G : rr_G} {nx : Nat} {K N : Nat → Nat} {I I1 I2 J : Nat → Int → Int} {R : Nat → Int → Option Nat} {T a b : Nat} {k its : Int}
def SyQ (J : Nat → Int → Int) (k its q z : Int) : Prop := ∀ f, 0 ≤ f → f < 32 → (tb z f ↔ (f < q ∧ J 371 f = f ∧ J 383 (20 * k + f) = its))
def SyP (K N : Nat → Nat) (I : Nat → Int → Int) (R : Nat → Int → Option Nat) (nx : Nat) (J : Nat → Int → Int) (k its : Int) : rr_V → rr_H → Nat → Prop := fun w h2 n2 => ∃ z, w = vI z ∧ h2 = (K, N, I, R) ∧ nx = n2 ∧ SyQ J k its (J 360 4) z
theorem SyQ.no {q z : Int} (h : SyQ J k its q z) (hn : ¬ (J 371 q = q ∧ J 383 (20 * k + q) = its)) : SyQ J k its (q + 1) (rr_or z 0) := by
  intro f h0 h1
  rw [tb_or, h f h0 h1]
  constructor
  · rintro (w | w)
    · exact ⟨by omega, w.2⟩
    · exact absurd w (tb_0 f)
  · intro w
    have : f ≠ q := fun e => hn (e ▸ w.2)
    exact Or.inl ⟨by omega, w.2⟩
theorem SyQ.yes {q z : Int} (h : SyQ J k its q z) (hq : 0 ≤ q ∧ q < 32) (hn : J 371 q = q ∧ J 383 (20 * k + q) = its) : SyQ J k its (q + 1) (rr_or z (rr_shl 1 q)) := by
  intro f h0 h1
  rw [tb_or, h f h0 h1, tb_shl1 hq ⟨h0, h1⟩]
  constructor
  · rintro (w | rfl)
    · exact ⟨by omega, w.2⟩
    · exact ⟨by omega, hn⟩
  · intro w
    by_cases e : f = q
    · exact Or.inr e
    · exact Or.inl ⟨by omega, w.2⟩
theorem jc_signsBy (hs : Ss K N R) (ht : Td K N R T) (hk : a = 333 ∨ a = 334) (hg : SgM I J T) (hgr : GrM I J a k) (hi : 0 ≤ its ∧ its < 20) : gP G yX0_signsBy cX0_signsBy 5 ((some FieldType.int)) 3 0 0 [vR (some 300), vR (some a), vI its] (K, N, I, R) nx (SyP K N I R nx J k its) := by
  have hKa : K a = 64 := by rcases hk with rfl | rfl <;> exact hs.k _ (by decide)
  have hNa : N a = 20 := by rcases hk with rfl | rfl <;> exact hs.n _ (by decide)
  obtain ⟨hT0, hsg, hsr, hn20, hn0⟩ := hg
  have hfI : 0 ≤ I T 0 ∧ I T 0 ≤ 20 := by omega
  refine gP.of (by decide) rfl (Nat.le_of_ble_eq_true rfl) ?_
  refine x_ls (ls2 := [some (vR (some 300)), some (vR (some a)), some (vI its), none, none]) rfl ?_
  refine x_iconst dX0_signsBy_0 ?_
  refine x_istore_n dX0_signsBy_1 (by decide) ?_
  refine x_iconst dX0_signsBy_2 ?_
  refine x_istore dX0_signsBy_3 (by decide) ?_
  refine x_ls (ls2 := [some (vR (some 300)), some (vR (some a)), some (vI its), some (vI 0), some (vI 0)]) rfl ?_
  refine s_for (W := fun (q : Int) (z : Int) => gp G yX0_signsBy cX0_signsBy 5 ((some FieldType.int)) 3 0 0 (SyP K N I R nx J k its) 5 [some (vR (some 300)), some (vR (some a)), some (vI its), some (vI z), some (vI q)] [] (K, N, I, R) nx 0 0) (fun q z => SyQ J k its q z) 0 (J 360 4) 0 (by omega) (fun f h0 h1 => ⟨fun w => absurd w (tb_0 f), fun w => by omega⟩) ?_
  intro q z h0 hq hz ih
  have hsq := hsg q h0
  have hgq := hgr q h0
  refine x_iload dX0_signsBy_5 rfl ?_
  refine x_aload_n dX0_signsBy_7 rfl ?_
  refine g_getR 2 (r := some T) (ci := 1) (kf := 2) rfl (by decide) (by decide) rfl rfl q1307 rfl (hs.k 300 (by decide)) (ht.t) dX0_signsBy_8 ?_
  refine g_getIN 0 (ci := 3) (kf := 0) rfl (by decide) (by decide) rfl rfl q210 rfl (ht.k) dX0_signsBy_11 ?_
  rw [hT0]
  refine x_icmp_ge (t := 51) dX0_signsBy_14 (by decide) (by omega) (fun c_14 => ?_) (fun c_14 => ?_)
  · skip
    refine x_iload_n dX0_signsBy_51 rfl ?_
    refine gp_iret rfl dX0_signsBy_52 (by omega) (by omega) ?_
    exact ⟨z, rfl, rfl, rfl, by rw [show J 360 4 = q by omega]; exact hz⟩
  · skip
    refine x_iload_n dX0_signsBy_17 rfl ?_
    refine x_aload_n dX0_signsBy_18 rfl ?_
    refine x_iload dX0_signsBy_19 rfl ?_
    refine g_cv1 (ci := 1) (jc_isSign hs ht hfI (by omega) hsr) fX0_isSign q1280 rfl (by decide) (hs.k 300 (by decide)) (by decide) (Nat.le_of_ble_eq_true rfl) (by omega) (by omega) dX0_signsBy_21 (fun v h2 n2 hp => ?_)
    obtain ⟨rfl, rfl, rfl⟩ := hp
    refine x_if_eq_b (t := 42) dX0_signsBy_24 (by decide) (fun c_24 => ?_) (fun c_24 => ?_)
    · skip
      have hno : ¬ (J 371 q = q ∧ J 383 (20 * k + q) = its) := fun w => c_24 ⟨by omega, by rw [(hsq (by omega)).1.1]; exact w.1⟩
      refine x_iconst dX0_signsBy_42 ?_
      refine x_ior dX0_signsBy_43 ?_
      refine x_istore_n dX0_signsBy_44 (by decide) ?_
      refine x_iinc dX0_signsBy_45 rfl (by decide) ?_
      refine x_goto (t := 5) dX0_signsBy_48 (by decide) ?_
      exact ih _ (by omega) (hz.no hno)
    · skip
      have hsn : J 371 q = q := by rw [← (hsq (by omega)).1.1]; exact c_24.2
      have hga := hgq (by omega)
      rw [hsn] at hga
      refine x_aload_n dX0_signsBy_27 rfl ?_
      refine x_iload dX0_signsBy_28 rfl ?_
      refine g_iald (hKa) rfl (by omega) dX0_signsBy_30 ?_
      rw [hga.1]
      refine x_iload_n dX0_signsBy_31 rfl ?_
      refine x_icmp_ne (t := 42) dX0_signsBy_32 (by decide) (by omega) (fun c_32 => ?_) (fun c_32 => ?_)
      · skip
        refine x_iconst dX0_signsBy_42 ?_
        refine x_ior dX0_signsBy_43 ?_
        refine x_istore_n dX0_signsBy_44 (by decide) ?_
        refine x_iinc dX0_signsBy_45 rfl (by decide) ?_
        refine x_goto (t := 5) dX0_signsBy_48 (by decide) ?_
        exact ih _ (by omega) (hz.no (fun w => c_32 w.2))
      · skip
        refine x_iconst dX0_signsBy_35 ?_
        refine x_iload dX0_signsBy_36 rfl ?_
        refine x_ishl dX0_signsBy_38 ?_
        refine x_goto (t := 43) dX0_signsBy_39 (by decide) ?_
        refine x_ior dX0_signsBy_43 ?_
        refine x_istore_n dX0_signsBy_44 (by decide) ?_
        refine x_iinc dX0_signsBy_45 rfl (by decide) ?_
        refine x_goto (t := 5) dX0_signsBy_48 (by decide) ?_
        exact ih _ (by omega) (hz.yes (by omega) ⟨hsn, by omega⟩)
abbrev kV (J : Nat → Int → Int) (k : Int) : Int → Int := fun g => partOf (J 369 (4 + g)) k
/-- a class is disputed -/
def ppS (J : Nat → Int → Int) (k s : Int) : Prop := pp (gsd J k s) (kV J k) (J 360 4)
theorem gsd_eq {s t : Int} (h : J 383 (20 * k + s) = J 383 (20 * k + t)) : gsd J k s = gsd J k t := by
  funext g
  unfold gsd sh
  rw [h]
theorem knV_same {s t : Int} (h : J 383 (20 * k + s) = J 383 (20 * k + t)) : knV J k s = knV J k t ∧ ppS J k s = ppS J k t := by
  unfold knV ppS
  rw [gsd_eq h]
  exact ⟨rfl, rfl⟩
def LkA (J : Nat → Int → Int) (k q : Int) (f : Int → Int) : Prop := ∀ s, 0 ≤ s → s < J 360 4 → f s = @ite _ (J 371 s = s ∧ J 383 (20 * k + s) < q) (Classical.propDecidable _) (knV J k s) (-1)
def LkB (J : Nat → Int → Int) (q0 q1 z : Int) : Prop := ∀ s, 0 ≤ s → s < 32 → (tb z s ↔ (s < J 360 4 ∧ J 371 s = s) ∧ ((J 383 (20 * 0 + s) < q0 ∧ ppS J 0 s) ∨ (J 383 (20 * 1 + s) < q1 ∧ ppS J 1 s)))
def LkF (I I1 : Nat → Int → Int) : Prop := (∀ x, x ≠ 348 → x ≠ 349 → x ≠ 300 → I1 x = I x) ∧ ∀ j, j ≠ 21 → I1 300 j = I 300 j
/-- the least of a class is a sign of it -/
def GrL (J : Nat → Int → Int) (k : Int) : Prop := ∀ g, 0 ≤ g → g < J 360 4 → J 371 (J 383 (20 * k + g)) = J 383 (20 * k + g) ∧ J 383 (20 * k + J 383 (20 * k + g)) = J 383 (20 * k + g)
theorem LkA.no {q : Int} {f : Int → Int} (h : LkA J k q f) (hL : GrL J k) (hn : ¬ (J 371 q = q ∧ J 383 (20 * k + q) = q)) : LkA J k (q + 1) f := by
  intro s h0 h1
  rw [h s h0 h1]
  refine ite_c ⟨fun w => ⟨w.1, by omega⟩, fun w => ⟨w.1, ?_⟩⟩
  have : J 383 (20 * k + s) ≠ q := fun e => hn (by have := hL s h0 h1; rw [e] at this; exact this)
  omega
theorem LkA.yes {q : Int} {f f2 : Int → Int} (h : LkA J k q f) (hn : J 383 (20 * k + q) = q) (h2 : ∀ s, 0 ≤ s → s < J 360 4 → f2 s = @ite _ (J 371 s = s ∧ J 383 (20 * k + s) = q) (Classical.propDecidable _) (knV J k q) (f s)) : LkA J k (q + 1) f2 := by
  intro s h0 h1
  rw [h2 s h0 h1]
  by_cases e : J 371 s = s ∧ J 383 (20 * k + s) = q
  · rw [@if_pos _ (Classical.propDecidable _) e, @if_pos _ (Classical.propDecidable _) ⟨e.1, by omega⟩, (knV_same (k := k) (s := s) (t := q) (by rw [e.2, hn])).1]
  · rw [@if_neg _ (Classical.propDecidable _) e, h s h0 h1]
    refine ite_c ⟨fun w => ⟨w.1, by omega⟩, fun w => ⟨w.1, ?_⟩⟩
    have : J 383 (20 * k + s) ≠ q := fun e2 => e ⟨w.1, e2⟩
    omega
theorem LkB.no0 {q0 q1 z : Int} (h : LkB J q0 q1 z) (hn : ∀ s, 0 ≤ s → s < J 360 4 → J 371 s = s → J 383 (20 * 0 + s) = q0 → ¬ ppS J 0 s) : LkB J (q0 + 1) q1 z := by
  intro s h0 h1
  rw [h s h0 h1]
  constructor
  · rintro ⟨w, v | v⟩
    · exact ⟨w, Or.inl ⟨by omega, v.2⟩⟩
    · exact ⟨w, Or.inr ⟨by omega, v.2⟩⟩
  · rintro ⟨w, v | v⟩
    · refine ⟨w, Or.inl ⟨?_, v.2⟩⟩; have : J 383 (20 * 0 + s) ≠ q0 := fun e => hn s h0 w.1 w.2 e v.2; omega
    · exact ⟨w, Or.inr v⟩
theorem LkB.yes0 {q0 q1 z w : Int} (h : LkB J q0 q1 z) (hq : J 383 (20 * 0 + q0) = q0) (hp : ppS J 0 q0) (hn : J 360 4 ≤ 20) (hw : SyQ J 0 q0 (J 360 4) w) : LkB J (q0 + 1) q1 (rr_or z w) := by
  intro s h0 h1
  rw [tb_or, h s h0 h1, hw s h0 h1]
  constructor
  · rintro (⟨w, v | v⟩ | w)
    · exact ⟨w, Or.inl ⟨by omega, v.2⟩⟩
    · exact ⟨w, Or.inr ⟨by omega, v.2⟩⟩
    · exact ⟨⟨w.1, w.2.1⟩, Or.inl ⟨by omega, by rw [(knV_same (k := 0) (s := s) (t := q0) (by rw [w.2.2, hq])).2]; exact hp⟩⟩
  · rintro ⟨w, v | v⟩
    · by_cases e : J 383 (20 * 0 + s) = q0; exact Or.inr ⟨w.1, w.2, e⟩; exact Or.inl ⟨w, Or.inl ⟨by omega, v.2⟩⟩
    · exact Or.inl ⟨w, Or.inr v⟩
theorem LkB.no1 {q0 q1 z : Int} (h : LkB J q0 q1 z) (hn : ∀ s, 0 ≤ s → s < J 360 4 → J 371 s = s → J 383 (20 * 1 + s) = q1 → ¬ ppS J 1 s) : LkB J q0 (q1 + 1) z := by
  intro s h0 h1
  rw [h s h0 h1]
  constructor
  · rintro ⟨w, v | v⟩
    · exact ⟨w, Or.inl ⟨by omega, v.2⟩⟩
    · exact ⟨w, Or.inr ⟨by omega, v.2⟩⟩
  · rintro ⟨w, v | v⟩
    · exact ⟨w, Or.inl v⟩
    · refine ⟨w, Or.inr ⟨?_, v.2⟩⟩; have : J 383 (20 * 1 + s) ≠ q1 := fun e => hn s h0 w.1 w.2 e v.2; omega
theorem LkB.yes1 {q0 q1 z w : Int} (h : LkB J q0 q1 z) (hq : J 383 (20 * 1 + q1) = q1) (hp : ppS J 1 q1) (hn : J 360 4 ≤ 20) (hw : SyQ J 1 q1 (J 360 4) w) : LkB J q0 (q1 + 1) (rr_or z w) := by
  intro s h0 h1
  rw [tb_or, h s h0 h1, hw s h0 h1]
  constructor
  · rintro (⟨w, v | v⟩ | w)
    · exact ⟨w, Or.inl ⟨by omega, v.2⟩⟩
    · exact ⟨w, Or.inr ⟨by omega, v.2⟩⟩
    · exact ⟨⟨w.1, w.2.1⟩, Or.inr ⟨by omega, by rw [(knV_same (k := 1) (s := s) (t := q1) (by rw [w.2.2, hq])).2]; exact hp⟩⟩
  · rintro ⟨w, v | v⟩
    · exact Or.inl ⟨w, Or.inl v⟩
    · by_cases e : J 383 (20 * 1 + s) = q1; exact Or.inr ⟨w.1, w.2, e⟩; exact Or.inl ⟨w, Or.inr ⟨by omega, v.2⟩⟩
end KN
