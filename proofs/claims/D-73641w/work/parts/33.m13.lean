set_option maxRecDepth 100000
/-! THE MODEL's methods, 13: the grid's groups -/
theorem rr_xor_comm (a b : Int) : rr_xor a b = rr_xor b a := by
  unfold rr_xor
  rw [Int32.xor_comm]
theorem itr5 (g : Int → Int → Int) (a : Int) : itr g 0 5 a = g 4 (g 3 (g 2 (g 1 (g 0 a)))) := rfl
theorem dot5 (I : Nat → Int → Int) (f : Int) {x y x' y' : Int} (hx : (x + 5) % 5 = (x' + 5) % 5) (hy : (y + 5) % 5 = (y' + 5) % 5) : m_dotOf I f x y = m_dotOf I f x' y' := by
  unfold m_dotOf; rw [hx, hy]
/-- twenty-five summands -/
def sm25 (D : Int → Int → Int) : Int := itr (fun y n => itr (fun x n => n + D x y) 0 5 n) 0 5 0
theorem unlikeBy_25 (I : Nat → Int → Int) (f g r e : Int) : m_unlikeBy I f g r e = sm25 (fun x y => rr_xor (m_dotOf I f x y) (m_dotOf I g (x + r) (y + e))) := rfl
theorem unlikeBy_sym (I : Nat → Int → Int) (f g : Int) {r e : Int} (hr : r = -1 ∨ r = 0 ∨ r = 1) (he : e = -1 ∨ e = 0 ∨ e = 1) : m_unlikeBy I f g r e = m_unlikeBy I g f (-r) (-e) := by
  rw [unlikeBy_25, unlikeBy_25]
  -- the summand of f's dot x y, g's dot x+r y+e
  have key : ∀ (T U : Int → Int → Int), (∀ x y x' y', (x' + 5) % 5 = (x + r + 5) % 5 → (y' + 5) % 5 = (y + e + 5) % 5 → U x' y' = T x y) → sm25 T = sm25 U := by
    intro T U h
    have h' := fun x y x' y' h1 h2 => h x y x' y' h1 h2
    unfold sm25
    simp only [itr5]
    rcases hr with rfl | rfl | rfl <;> rcases he with rfl | rfl | rfl
    · rw [h 0 0 4 4 (by decide) (by decide), h 1 0 0 4 (by decide) (by decide), h 2 0 1 4 (by decide) (by decide), h 3 0 2 4 (by decide) (by decide), h 4 0 3 4 (by decide) (by decide), h 0 1 4 0 (by decide) (by decide), h 1 1 0 0 (by decide) (by decide), h 2 1 1 0 (by decide) (by decide), h 3 1 2 0 (by decide) (by decide), h 4 1 3 0 (by decide) (by decide), h 0 2 4 1 (by decide) (by decide), h 1 2 0 1 (by decide) (by decide), h 2 2 1 1 (by decide) (by decide), h 3 2 2 1 (by decide) (by decide), h 4 2 3 1 (by decide) (by decide), h 0 3 4 2 (by decide) (by decide), h 1 3 0 2 (by decide) (by decide), h 2 3 1 2 (by decide) (by decide), h 3 3 2 2 (by decide) (by decide), h 4 3 3 2 (by decide) (by decide), h 0 4 4 3 (by decide) (by decide), h 1 4 0 3 (by decide) (by decide), h 2 4 1 3 (by decide) (by decide), h 3 4 2 3 (by decide) (by decide), h 4 4 3 3 (by decide) (by decide)]
      all_goals omega
    · rw [h 0 0 4 0 (by decide) (by decide), h 1 0 0 0 (by decide) (by decide), h 2 0 1 0 (by decide) (by decide), h 3 0 2 0 (by decide) (by decide), h 4 0 3 0 (by decide) (by decide), h 0 1 4 1 (by decide) (by decide), h 1 1 0 1 (by decide) (by decide), h 2 1 1 1 (by decide) (by decide), h 3 1 2 1 (by decide) (by decide), h 4 1 3 1 (by decide) (by decide), h 0 2 4 2 (by decide) (by decide), h 1 2 0 2 (by decide) (by decide), h 2 2 1 2 (by decide) (by decide), h 3 2 2 2 (by decide) (by decide), h 4 2 3 2 (by decide) (by decide), h 0 3 4 3 (by decide) (by decide), h 1 3 0 3 (by decide) (by decide), h 2 3 1 3 (by decide) (by decide), h 3 3 2 3 (by decide) (by decide), h 4 3 3 3 (by decide) (by decide), h 0 4 4 4 (by decide) (by decide), h 1 4 0 4 (by decide) (by decide), h 2 4 1 4 (by decide) (by decide), h 3 4 2 4 (by decide) (by decide), h 4 4 3 4 (by decide) (by decide)]
      all_goals omega
    · rw [h 0 0 4 1 (by decide) (by decide), h 1 0 0 1 (by decide) (by decide), h 2 0 1 1 (by decide) (by decide), h 3 0 2 1 (by decide) (by decide), h 4 0 3 1 (by decide) (by decide), h 0 1 4 2 (by decide) (by decide), h 1 1 0 2 (by decide) (by decide), h 2 1 1 2 (by decide) (by decide), h 3 1 2 2 (by decide) (by decide), h 4 1 3 2 (by decide) (by decide), h 0 2 4 3 (by decide) (by decide), h 1 2 0 3 (by decide) (by decide), h 2 2 1 3 (by decide) (by decide), h 3 2 2 3 (by decide) (by decide), h 4 2 3 3 (by decide) (by decide), h 0 3 4 4 (by decide) (by decide), h 1 3 0 4 (by decide) (by decide), h 2 3 1 4 (by decide) (by decide), h 3 3 2 4 (by decide) (by decide), h 4 3 3 4 (by decide) (by decide), h 0 4 4 0 (by decide) (by decide), h 1 4 0 0 (by decide) (by decide), h 2 4 1 0 (by decide) (by decide), h 3 4 2 0 (by decide) (by decide), h 4 4 3 0 (by decide) (by decide)]
      all_goals omega
    · rw [h 0 0 0 4 (by decide) (by decide), h 1 0 1 4 (by decide) (by decide), h 2 0 2 4 (by decide) (by decide), h 3 0 3 4 (by decide) (by decide), h 4 0 4 4 (by decide) (by decide), h 0 1 0 0 (by decide) (by decide), h 1 1 1 0 (by decide) (by decide), h 2 1 2 0 (by decide) (by decide), h 3 1 3 0 (by decide) (by decide), h 4 1 4 0 (by decide) (by decide), h 0 2 0 1 (by decide) (by decide), h 1 2 1 1 (by decide) (by decide), h 2 2 2 1 (by decide) (by decide), h 3 2 3 1 (by decide) (by decide), h 4 2 4 1 (by decide) (by decide), h 0 3 0 2 (by decide) (by decide), h 1 3 1 2 (by decide) (by decide), h 2 3 2 2 (by decide) (by decide), h 3 3 3 2 (by decide) (by decide), h 4 3 4 2 (by decide) (by decide), h 0 4 0 3 (by decide) (by decide), h 1 4 1 3 (by decide) (by decide), h 2 4 2 3 (by decide) (by decide), h 3 4 3 3 (by decide) (by decide), h 4 4 4 3 (by decide) (by decide)]
      all_goals omega
    · rw [h 0 0 0 0 (by decide) (by decide), h 1 0 1 0 (by decide) (by decide), h 2 0 2 0 (by decide) (by decide), h 3 0 3 0 (by decide) (by decide), h 4 0 4 0 (by decide) (by decide), h 0 1 0 1 (by decide) (by decide), h 1 1 1 1 (by decide) (by decide), h 2 1 2 1 (by decide) (by decide), h 3 1 3 1 (by decide) (by decide), h 4 1 4 1 (by decide) (by decide), h 0 2 0 2 (by decide) (by decide), h 1 2 1 2 (by decide) (by decide), h 2 2 2 2 (by decide) (by decide), h 3 2 3 2 (by decide) (by decide), h 4 2 4 2 (by decide) (by decide), h 0 3 0 3 (by decide) (by decide), h 1 3 1 3 (by decide) (by decide), h 2 3 2 3 (by decide) (by decide), h 3 3 3 3 (by decide) (by decide), h 4 3 4 3 (by decide) (by decide), h 0 4 0 4 (by decide) (by decide), h 1 4 1 4 (by decide) (by decide), h 2 4 2 4 (by decide) (by decide), h 3 4 3 4 (by decide) (by decide), h 4 4 4 4 (by decide) (by decide)]
      all_goals omega
    · rw [h 0 0 0 1 (by decide) (by decide), h 1 0 1 1 (by decide) (by decide), h 2 0 2 1 (by decide) (by decide), h 3 0 3 1 (by decide) (by decide), h 4 0 4 1 (by decide) (by decide), h 0 1 0 2 (by decide) (by decide), h 1 1 1 2 (by decide) (by decide), h 2 1 2 2 (by decide) (by decide), h 3 1 3 2 (by decide) (by decide), h 4 1 4 2 (by decide) (by decide), h 0 2 0 3 (by decide) (by decide), h 1 2 1 3 (by decide) (by decide), h 2 2 2 3 (by decide) (by decide), h 3 2 3 3 (by decide) (by decide), h 4 2 4 3 (by decide) (by decide), h 0 3 0 4 (by decide) (by decide), h 1 3 1 4 (by decide) (by decide), h 2 3 2 4 (by decide) (by decide), h 3 3 3 4 (by decide) (by decide), h 4 3 4 4 (by decide) (by decide), h 0 4 0 0 (by decide) (by decide), h 1 4 1 0 (by decide) (by decide), h 2 4 2 0 (by decide) (by decide), h 3 4 3 0 (by decide) (by decide), h 4 4 4 0 (by decide) (by decide)]
      all_goals omega
    · rw [h 0 0 1 4 (by decide) (by decide), h 1 0 2 4 (by decide) (by decide), h 2 0 3 4 (by decide) (by decide), h 3 0 4 4 (by decide) (by decide), h 4 0 0 4 (by decide) (by decide), h 0 1 1 0 (by decide) (by decide), h 1 1 2 0 (by decide) (by decide), h 2 1 3 0 (by decide) (by decide), h 3 1 4 0 (by decide) (by decide), h 4 1 0 0 (by decide) (by decide), h 0 2 1 1 (by decide) (by decide), h 1 2 2 1 (by decide) (by decide), h 2 2 3 1 (by decide) (by decide), h 3 2 4 1 (by decide) (by decide), h 4 2 0 1 (by decide) (by decide), h 0 3 1 2 (by decide) (by decide), h 1 3 2 2 (by decide) (by decide), h 2 3 3 2 (by decide) (by decide), h 3 3 4 2 (by decide) (by decide), h 4 3 0 2 (by decide) (by decide), h 0 4 1 3 (by decide) (by decide), h 1 4 2 3 (by decide) (by decide), h 2 4 3 3 (by decide) (by decide), h 3 4 4 3 (by decide) (by decide), h 4 4 0 3 (by decide) (by decide)]
      all_goals omega
    · rw [h 0 0 1 0 (by decide) (by decide), h 1 0 2 0 (by decide) (by decide), h 2 0 3 0 (by decide) (by decide), h 3 0 4 0 (by decide) (by decide), h 4 0 0 0 (by decide) (by decide), h 0 1 1 1 (by decide) (by decide), h 1 1 2 1 (by decide) (by decide), h 2 1 3 1 (by decide) (by decide), h 3 1 4 1 (by decide) (by decide), h 4 1 0 1 (by decide) (by decide), h 0 2 1 2 (by decide) (by decide), h 1 2 2 2 (by decide) (by decide), h 2 2 3 2 (by decide) (by decide), h 3 2 4 2 (by decide) (by decide), h 4 2 0 2 (by decide) (by decide), h 0 3 1 3 (by decide) (by decide), h 1 3 2 3 (by decide) (by decide), h 2 3 3 3 (by decide) (by decide), h 3 3 4 3 (by decide) (by decide), h 4 3 0 3 (by decide) (by decide), h 0 4 1 4 (by decide) (by decide), h 1 4 2 4 (by decide) (by decide), h 2 4 3 4 (by decide) (by decide), h 3 4 4 4 (by decide) (by decide), h 4 4 0 4 (by decide) (by decide)]
      all_goals omega
    · rw [h 0 0 1 1 (by decide) (by decide), h 1 0 2 1 (by decide) (by decide), h 2 0 3 1 (by decide) (by decide), h 3 0 4 1 (by decide) (by decide), h 4 0 0 1 (by decide) (by decide), h 0 1 1 2 (by decide) (by decide), h 1 1 2 2 (by decide) (by decide), h 2 1 3 2 (by decide) (by decide), h 3 1 4 2 (by decide) (by decide), h 4 1 0 2 (by decide) (by decide), h 0 2 1 3 (by decide) (by decide), h 1 2 2 3 (by decide) (by decide), h 2 2 3 3 (by decide) (by decide), h 3 2 4 3 (by decide) (by decide), h 4 2 0 3 (by decide) (by decide), h 0 3 1 4 (by decide) (by decide), h 1 3 2 4 (by decide) (by decide), h 2 3 3 4 (by decide) (by decide), h 3 3 4 4 (by decide) (by decide), h 4 3 0 4 (by decide) (by decide), h 0 4 1 0 (by decide) (by decide), h 1 4 2 0 (by decide) (by decide), h 2 4 3 0 (by decide) (by decide), h 3 4 4 0 (by decide) (by decide), h 4 4 0 0 (by decide) (by decide)]
      all_goals omega
  refine key _ _ (fun x y x' y' h1 h2 => ?_)
  rw [rr_xor_comm, dot5 I g h1 h2, dot5 I f (x := x' + -r) (y := y' + -e) (x' := x) (y' := y) (by omega) (by omega)]
theorem itr3 (g : Int → Int → Int) (a : Int) : itr g (-1) 2 a = g 1 (g 0 (g (-1) a)) := rfl
theorem unlikeOf_sym (I : Nat → Int → Int) (f g : Int) : m_unlikeOf I f g = m_unlikeOf I g f := by
  unfold m_unlikeOf
  simp only [itr3]
  rw [unlikeBy_sym I f g (r := -1) (e := -1) (by omega) (by omega), unlikeBy_sym I f g (r := -1) (e := 0) (by omega) (by omega), unlikeBy_sym I f g (r := -1) (e := 1) (by omega) (by omega), unlikeBy_sym I f g (r := 0) (e := -1) (by omega) (by omega), unlikeBy_sym I f g (r := 0) (e := 0) (by omega) (by omega), unlikeBy_sym I f g (r := 0) (e := 1) (by omega) (by omega), unlikeBy_sym I f g (r := 1) (e := -1) (by omega) (by omega), unlikeBy_sym I f g (r := 1) (e := 0) (by omega) (by omega), unlikeBy_sym I f g (r := 1) (e := 1) (by omega) (by omega)]
  simp only [Int.neg_neg, Int.neg_zero]
  generalize m_unlikeBy I g f _ _ = a1
  generalize m_unlikeBy I g f _ _ = a2
  generalize m_unlikeBy I g f _ _ = a3
  generalize m_unlikeBy I g f _ _ = a4
  generalize m_unlikeBy I g f _ _ = a5
  generalize m_unlikeBy I g f _ _ = a6
  generalize m_unlikeBy I g f _ _ = a7
  generalize m_unlikeBy I g f _ _ = a8
  generalize m_unlikeBy I g f _ _ = a9
  have c := Int.min_comm
  have a := Int.min_assoc
  ac_rfl
theorem lk_sym {I : Nat → Int → Int} {a b : Int} (h : lk I a b) : lk I b a := by
  unfold lk at *
  rw [unlikeOf_sym I b a, show twoAt b a = twoAt a b by unfold twoAt; omega]
  exact h
theorem Least.con {r : Int → Int → Prop} {n : Int} {s : Int → Int} (h : Least r n s) {a b : Int} (hc : Con (In2 n r) a b) : a = b ∨ s a = s b := by
  refine hc (fun a b => a = b ∨ s a = s b) (fun x => Or.inl rfl) (fun x y q => q.elim (fun z => Or.inl z.symm) (fun z => Or.inr z.symm)) (fun x y z h1 h2 => ?_) (fun x y q => ?_)
  · rcases h1 with rfl | h1
    · exact h2
    · rcases h2 with rfl | h2
      · exact Or.inr h1
      · exact Or.inr (h1.trans h2)
  · exact Or.inr ((h x q.1.1 q.1.2).2.2 y q.2.1.1 q.2.1.2 q.2.2)
/-- signs are the least ones -/
theorem SgPost.least {I I' : Nat → Int → Int} (h : SgPost I I') : Least (lk I) (I 360 4) (I' 371) := fun f h1 h2 => by
  obtain ⟨-, hi, hc, -⟩ := h
  obtain ⟨h3, h4⟩ := hi f h1 h2
  refine ⟨h3, fun E e1 e2 e3 e4 => h4 E e1 e2 e3 (fun x y q => e4 x y q.2.2), fun g g1 g2 hl => ?_⟩
  by_cases e : f = g
  · rw [e]
  · have a1 := hc f g h1 h2 g1 g2 e
    have a2 := hc g f g1 g2 h1 h2 (fun z => e z.symm)
    rcases Int.lt_trichotomy (I' 371 f) (I' 371 g) with q | q | q
    · exact absurd hl (a1 q)
    · exact q
    · exact absurd (lk_sym hl) (a2 q)
def SgOK (I : Nat → Int → Int) : Prop := ∀ f, 0 ≤ f → f < I 360 4 → (0 ≤ I 371 f ∧ I 371 f ≤ f) ∧ I 371 (I 371 f) = I 371 f
theorem SgPost.ok {I I' : Nat → Int → Int} (h : SgPost I I') : SgOK I' := fun f h1 h2 => by
  have e4 : I' 360 4 = I 360 4 := h.1.2 4 (by decide)
  rw [e4] at h2
  obtain ⟨h3, h4⟩ := h.2.1 f h1 h2
  refine ⟨h3, ?_⟩
  rcases h.least.con h4 with q | q
  · rw [← q, ← q]
  · exact q.symm
/-- hangs together in the grid -/
def tog (I : Nat → Int → Int) (P : Int → Int → Int → Prop) (k a b : Int) : Prop := I 371 a = I 371 b ∨ P k (I 371 a) (I 371 b)
def sh (k : Int) (s : Int → Int) : Int → Int := fun f => s (20 * k + f)
theorem sh_up (k : Int) (s : Int → Int) (b v : Int) : sh k (upA s (20 * k + b) v) = upA (sh k s) b v := by
  funext f
  simp only [sh, upA]
  by_cases e : f = b
  · rw [if_pos (by omega), if_pos e]
  · rw [if_neg (by omega), if_neg e]
def GrInv (I : Nat → Int → Int) (P : Int → Int → Int → Prop) (k : Int) (s : Int → Int) : Prop := (∀ j, ¬ (20 * k ≤ j ∧ j < 20 * k + I 360 4) → s j = I 383 j) ∧ ∀ f, 0 ≤ f → f < I 360 4 → (0 ≤ sh k s f ∧ sh k s f ≤ f) ∧ Con (In2 (I 360 4) (tog I P k)) f (sh k s f)
def GrCl (I : Nat → Int → Int) (P : Int → Int → Int → Prop) (k : Int) (s : Int → Int) : Prop := ∀ a b, 0 ≤ a → a < I 360 4 → 0 ≤ b → b < I 360 4 → tog I P k a b → ¬ sh k s a < sh k s b
def GrPost (I : Nat → Int → Int) (P : Int → Int → Int → Prop) (k : Int) (I' : Nat → Int → Int) : Prop := eqx I I' [383] [] ∧ GrInv I P k (I' 383) ∧ GrCl I P k (I' 383)
def gr0 (I : Nat → Int → Int) (k n : Int) : Int → Int := fun j => if 20 * k ≤ j ∧ j < 20 * k + n then I 371 (j - 20 * k) else I 383 j
theorem gr0_0 (I : Nat → Int → Int) (k : Int) : gr0 I k 0 = I 383 := by funext j; simp only [gr0]; rw [if_neg (by omega)]
theorem gr0_s (I : Nat → Int → Int) (k : Int) {n : Int} (h : 0 ≤ n) : upA (gr0 I k n) (20 * k + n) (I 371 n) = gr0 I k (n + 1) := by
  funext j; simp only [upA, gr0]
  by_cases e : j = 20 * k + n
  · rw [if_pos e, if_pos (by omega), e]; congr 1; omega
  · rw [if_neg e]
    by_cases e2 : 20 * k ≤ j ∧ j < 20 * k + n
    · rw [if_pos e2, if_pos (by omega)]
    · rw [if_neg e2, if_neg (by omega)]
theorem c_laysGroups {I : Nat → Int → Int} {P : Int → Int → Int → Prop} {k : Int} (hf : 0 ≤ I 360 4 ∧ I 360 4 ≤ 20) (hk : k = 0 ∨ k = 1) (hsg : SgOK I) (hP : CE I P) : mE yX4_laysGroups cX4_laysGroups 6 none 1 [vR (some 360), vI k] I (GrPost I P k) := by
  have e4 : ∀ s, stA I 383 s 360 4 = I 360 4 := fun s => by rw [stA_ne I s (by decide)]
  have e371 : ∀ s, stA I 383 s 371 = I 371 := fun s => stA_ne I s (by decide)
  have e382 : ∀ s, stA I 383 s 382 = I 382 := fun s => stA_ne I s (by decide)
  obtain ⟨N, hN⟩ : ∃ N : Nat, I 360 4 = N := ⟨(I 360 4).toNat, by omega⟩
  refine mE.of (by decide) rfl (Nat.le_of_ble_eq_true rfl) (fun G nx => ?_)
  refine x_ls (ls2 := [some (vR (some 360)), some (vI k), none, none, none, none]) rfl ?_
  refine x_iconst dX4_laysGroups_0 ?_
  refine x_istore_n dX4_laysGroups_1 (by decide) ?_
  refine x_h (h2 := mh (stA I 383 (gr0 I k 0))) (by rw [gr0_0, stA_self]) ?_
  refine rr_ind (W := fun q => me G yX4_laysGroups cX4_laysGroups 6 none 1 nx _ 2 [some (vR (some 360)), some (vI k), some (vI q), none, none, none] [] (stA I 383 (gr0 I k q))) (fun q => (I 360 4 - q).toNat) (fun q => 0 ≤ q ∧ q ≤ I 360 4) ?_ 0 (by omega)
  intro q hq ih
  refine x_iload_n dX4_laysGroups_2 rfl ?_
  refine x_aload_n dX4_laysGroups_3 rfl ?_
  refine m_getI (kf := 4) 4 (by decide) rfl rfl q2119 rfl dX4_laysGroups_4 ?_
  rw [e4]
  refine x_icmp_ge (t := 33) dX4_laysGroups_7 (by decide) (by omega) (fun c_7 => ?_) (fun c_7 => ?_)
  · skip
    have hq2 : q = I 360 4 := by omega
    subst hq2
    refine x_iconst dX4_laysGroups_33 ?_
    refine x_istore_n dX4_laysGroups_34 (by decide) ?_
    refine rr_ind (W := fun q : Int × (Int → Int) => me G yX4_laysGroups cX4_laysGroups 6 none 1 nx _ 35 [some (vR (some 360)), some (vI k), some (vI q.1), none, none, none] [] (stA I 383 q.2)) (fun q => 2 * smN (sh k q.2) N + q.1.toNat) (fun q => GrInv I P k q.2 ∧ (q.1 = 1 ∨ (q.1 = 0 ∧ GrCl I P k q.2))) ?_ (1, gr0 I k (I 360 4)) ⟨⟨fun j hj => by simp only [gr0]; rw [if_neg hj], fun f h1 h2 => ?_⟩, Or.inl rfl⟩
    · rintro ⟨on, s0⟩ ⟨hs0, hon⟩ ih2
      simp only at hs0 hon ih2
      dsimp only
      refine x_iload_n dX4_laysGroups_35 rfl ?_
      refine x_if_eq (t := 182) dX4_laysGroups_36 (by decide) (by omega) (fun c_36 => ?_) (fun c_36 => ?_)
      · skip
        have hcl := (hon.resolve_left (by omega)).2
        refine x_vret rfl dX4_laysGroups_182 (Nat.le_refl _) (Nat.le_refl _) ?_
        refine ⟨rfl, rfl, _, rfl, ⟨fun x h1 h2 => stA_ne I s0 (by simpa using h2), fun j hj => by rw [stA_ne I s0 (by decide)]⟩, ?_, ?_⟩
        · rw [stA_same]; exact hs0
        · rw [stA_same]; exact hcl
      · skip
        have hon1 : on = 1 := hon.resolve_right (by omega)
        subst hon1
        refine x_iconst dX4_laysGroups_39 ?_
        refine x_istore_n dX4_laysGroups_40 (by decide) ?_
        refine x_iconst dX4_laysGroups_41 ?_
        refine x_istore_n dX4_laysGroups_42 (by decide) ?_
        refine rr_ind (W := fun q : Int × Int × (Int → Int) => me G yX4_laysGroups cX4_laysGroups 6 none 1 nx _ 43 [some (vR (some 360)), some (vI k), some (vI q.2.1), some (vI q.1), none, none] [] (stA I 383 q.2.2)) (fun q => (I 360 4 - q.1).toNat) (fun q => (0 ≤ q.1 ∧ q.1 ≤ I 360 4) ∧ GrInv I P k q.2.2 ∧ ((q.2.1 = 1 ∧ smN (sh k q.2.2) N < smN (sh k s0) N) ∨ (q.2.1 = 0 ∧ q.2.2 = s0 ∧ ∀ a b, 0 ≤ a → a < q.1 → 0 ≤ b → b < I 360 4 → tog I P k a b → ¬ sh k s0 a < sh k s0 b))) ?_ (0, 0, s0) ⟨by simp only; omega, hs0, Or.inr ⟨rfl, rfl, fun a b h1 h2 => by simp only at h2; omega⟩⟩
        rintro ⟨a, on, s⟩ ⟨ha, hs, hc⟩ ih3
        simp only at ha hs hc ih3
        dsimp only
        refine x_iload_n dX4_laysGroups_43 rfl ?_
        refine x_aload_n dX4_laysGroups_44 rfl ?_
        refine m_getI (kf := 4) 4 (by decide) rfl rfl q2119 rfl dX4_laysGroups_45 ?_
        rw [e4]
        refine x_icmp_ge (t := 179) dX4_laysGroups_48 (by decide) (by omega) (fun c_48 => ?_) (fun c_48 => ?_)
        · skip
          have hend := ih2 (on, s) ⟨hs, by
            rcases hc with h | h
            · exact Or.inl h.1
            · exact Or.inr ⟨h.1, by rw [h.2.1]; exact fun a' b h1 h2 => h.2.2 a' b h1 (by omega)⟩⟩ (by
            rcases hc with h | h
            · have := h.2; have := h.1; simp only; omega
            · have := h.1; rw [h.2.1]; simp only; omega)
          refine x_goto (t := 35) dX4_laysGroups_179 (by decide) ?_
          exact x_loc (by repeat first | exact trivial | refine ⟨Or.inr rfl, ?_⟩ | refine ⟨Or.inl rfl, ?_⟩) hend
        · skip
          refine x_iconst dX4_laysGroups_51 ?_
          refine x_istore dX4_laysGroups_52 (by decide) ?_
          refine rr_ind (W := fun q : Int × Int × (Int → Int) => me G yX4_laysGroups cX4_laysGroups 6 none 1 nx _ 54 [some (vR (some 360)), some (vI k), some (vI q.2.1), some (vI a), some (vI q.1), none] [] (stA I 383 q.2.2)) (fun q => (I 360 4 - q.1).toNat) (fun q => (0 ≤ q.1 ∧ q.1 ≤ I 360 4) ∧ GrInv I P k q.2.2 ∧ ((q.2.1 = 1 ∧ smN (sh k q.2.2) N < smN (sh k s0) N) ∨ (q.2.1 = 0 ∧ q.2.2 = s0 ∧ (∀ a' b, 0 ≤ a' → a' < a → 0 ≤ b → b < I 360 4 → tog I P k a' b → ¬ sh k s0 a' < sh k s0 b) ∧ ∀ b, 0 ≤ b → b < q.1 → tog I P k a b → ¬ sh k s0 a < sh k s0 b))) ?_ (0, on, s) ⟨by simp only; omega, hs, by
            rcases hc with h | h
            · exact Or.inl h
            · exact Or.inr ⟨h.1, h.2.1, h.2.2, fun b h1 h2 => by simp only at h2; omega⟩⟩
          rintro ⟨b, on2, s2⟩ ⟨hb, hs2, hc2⟩ ih4
          simp only at hb hs2 hc2 ih4
          dsimp only
          have hsa := (hs2.2 a ha.1 (by omega)).1
          have hsb : b < I 360 4 → 0 ≤ sh k s2 b ∧ sh k s2 b ≤ b := fun h2 => (hs2.2 b hb.1 h2).1
          have hga := hsg a ha.1 (by omega)
          have hgb := fun h2 => hsg b hb.1 h2
          have hskip : b < I 360 4 → (on2 = 0 → s2 = s0 → tog I P k a b → ¬ sh k s0 a < sh k s0 b) → me G yX4_laysGroups cX4_laysGroups 6 none 1 nx _ 54 [some (vR (some 360)), some (vI k), some (vI on2), some (vI a), some (vI (b + 1)), none] [] (stA I 383 s2) := fun hb1 h => ih4 (b + 1, on2, s2) ⟨by simp only; omega, hs2, by
            rcases hc2 with g | g
            · exact Or.inl g
            · refine Or.inr ⟨g.1, g.2.1, g.2.2.1, fun b' h1 h2 => ?_⟩
              by_cases e : b' = b
              · rw [e]; exact h g.1 g.2.1
              · exact g.2.2.2 b' h1 (by simp only at h2; omega)⟩ (by simp only; omega)
          refine x_iload dX4_laysGroups_54 rfl ?_
          refine x_aload_n dX4_laysGroups_56 rfl ?_
          refine m_getI (kf := 4) 4 (by decide) rfl rfl q2119 rfl dX4_laysGroups_57 ?_
          rw [e4]
          refine x_icmp_ge (t := 173) dX4_laysGroups_60 (by decide) (by omega) (fun c_60 => ?_) (fun c_60 => ?_)
          · skip
            have hgo := ih3 (a + 1, on2, s2) ⟨by simp only; omega, hs2, by
              rcases hc2 with g | g
              · exact Or.inl g
              · refine Or.inr ⟨g.1, g.2.1, fun a' b' h1 h2 h3 h4 => ?_⟩
                by_cases e : a' = a
                · rw [e]; exact g.2.2.2 b' h3 (by simp only at h2; omega)
                · exact g.2.2.1 a' b' h1 (by simp only at h2; omega) h3 h4⟩ (by simp only; omega)
            refine x_iinc dX4_laysGroups_173 rfl (by decide) ?_
            refine x_goto (t := 43) dX4_laysGroups_176 (by decide) ?_
            exact x_loc (by repeat first | exact trivial | refine ⟨Or.inr rfl, ?_⟩ | refine ⟨Or.inl rfl, ?_⟩) hgo
          · skip
            have hgb := hgb (by omega)
            have hsb := hsb (by omega)
            have hcl := hP k (I 371 a) (I 371 b) hk (by omega) (by omega)
            have hci := clueAt_in hk (show 0 ≤ I 371 a ∧ I 371 a < 20 by omega) (show 0 ≤ I 371 b ∧ I 371 b < 20 by omega)
            have hb01 := bi_01 (P k (I 371 a) (I 371 b))
            have ht01 := bi_01 (tog I P k a b)
            refine x_aload_n dX4_laysGroups_63 rfl ?_
            refine m_getA (kf := 18) 18 (a := 371) (by decide) rfl rfl q2133 rfl rfl dX4_laysGroups_64 ?_
            refine x_iload_n dX4_laysGroups_67 rfl ?_
            refine m_iald (n := 20) rfl rfl (by decide) (by omega) dX4_laysGroups_68 ?_
            rw [e371]
            refine x_aload_n dX4_laysGroups_69 rfl ?_
            refine m_getA (kf := 18) 18 (a := 371) (by decide) rfl rfl q2133 rfl rfl dX4_laysGroups_70 ?_
            refine x_iload dX4_laysGroups_73 rfl ?_
            refine m_iald (n := 20) rfl rfl (by decide) (by omega) dX4_laysGroups_75 ?_
            rw [e371]
            refine x_icmp_eq (t := 104) dX4_laysGroups_76 (by decide) (by omega) (fun c_76 => ?_) (fun c_76 => ?_)
            · skip
              refine x_iconst dX4_laysGroups_104 ?_
              refine x_goto (t := 109) dX4_laysGroups_105 (by decide) ?_
              refine x_top (bi (tog I P k a b)) (by
                first
                | exact (bi_t (Or.inl c_76)).symm
                | exact (bi_t (Or.inr (Classical.byContradiction fun z => c_101 (bi_f z)))).symm
                | exact (bi_f (fun z => z.elim c_76 (fun z => by rw [bi_t z] at c_101; omega))).symm) ?_
              refine x_istore dX4_laysGroups_109 (by decide) ?_
              refine x_iload dX4_laysGroups_111 rfl ?_
              refine x_if_eq (t := 167) dX4_laysGroups_113 (by decide) (by omega) (fun c_113 => ?_) (fun c_113 => ?_)
              · skip
                have hno : ¬ tog I P k a b := fun z => by rw [bi_t z] at c_113; omega
                have hgo := hskip (by omega) (fun _ _ h => absurd h hno)
                refine x_iinc dX4_laysGroups_167 rfl (by decide) ?_
                refine x_goto (t := 54) dX4_laysGroups_170 (by decide) ?_
                exact x_loc (by repeat first | exact trivial | refine ⟨Or.inr rfl, ?_⟩ | refine ⟨Or.inl rfl, ?_⟩) hgo
              · skip
                have hyes : tog I P k a b := Classical.byContradiction fun z => c_113 (bi_f z)
                refine x_aload_n dX4_laysGroups_116 rfl ?_
                refine m_getA (kf := 35) 35 (a := 383) (by decide) rfl rfl q2150 rfl rfl dX4_laysGroups_117 ?_
                refine x_bipush dX4_laysGroups_120 (by decide) ?_
                refine x_iload_n dX4_laysGroups_122 rfl ?_
                refine x_imul dX4_laysGroups_123 ?_
                refine x_iload_n dX4_laysGroups_124 rfl ?_
                refine x_iadd dX4_laysGroups_125 ?_
                refine m_iald (n := 40) rfl rfl (by decide) (by omega) dX4_laysGroups_126 ?_
                rw [stA_same]
                refine x_aload_n dX4_laysGroups_127 rfl ?_
                refine m_getA (kf := 35) 35 (a := 383) (by decide) rfl rfl q2150 rfl rfl dX4_laysGroups_128 ?_
                refine x_bipush dX4_laysGroups_131 (by decide) ?_
                refine x_iload_n dX4_laysGroups_133 rfl ?_
                refine x_imul dX4_laysGroups_134 ?_
                refine x_iload dX4_laysGroups_135 rfl ?_
                refine x_iadd dX4_laysGroups_137 ?_
                refine m_iald (n := 40) rfl rfl (by decide) (by omega) dX4_laysGroups_138 ?_
                rw [stA_same]
                refine x_top (sh k s2 b) rfl ?_
                refine x_icmp_ge (t := 167) dX4_laysGroups_139 (by decide) (by simp only [sh] at *; omega) (fun c_139 => ?_) (fun c_139 => ?_)
                · skip
                  have hgo := hskip (by omega) (fun _ e _ => by rw [e] at c_139; simp only [sh] at *; omega)
                  refine x_iinc dX4_laysGroups_167 rfl (by decide) ?_
                  refine x_goto (t := 54) dX4_laysGroups_170 (by decide) ?_
                  exact x_loc (by repeat first | exact trivial | refine ⟨Or.inr rfl, ?_⟩ | refine ⟨Or.inl rfl, ?_⟩) hgo
                · skip
                  have c_139 : sh k s2 a < sh k s2 b := by simp only [sh] at *; omega
                  have hsm := smN_lt (sh k s2) N (b := b) (v := sh k s2 a) (by omega) (by omega)
                  rw [← sh_up] at hsm
                  have hinv : GrInv I P k (upA s2 (20 * k + b) (sh k s2 a)) := ⟨fun j hj => by rw [upA_n _ _ (by omega)]; exact hs2.1 j hj, by
                    rw [sh_up]
                    exact sg_pass hs2.2 ⟨ha.1, by omega⟩ ⟨hb.1, by omega⟩ c_139 hyes⟩
                  have hgo := ih4 (b + 1, 1, upA s2 (20 * k + b) (sh k s2 a)) ⟨by simp only; omega, hinv, Or.inl ⟨rfl, by
                    rcases hc2 with g | g
                    · have := g.2; simp only; omega
                    · rw [g.2.1] at hsm; simp only; rw [g.2.1]; omega⟩⟩ (by simp only; omega)
                  refine x_aload_n dX4_laysGroups_142 rfl ?_
                  refine m_getA (kf := 35) 35 (a := 383) (by decide) rfl rfl q2150 rfl rfl dX4_laysGroups_143 ?_
                  refine x_bipush dX4_laysGroups_146 (by decide) ?_
                  refine x_iload_n dX4_laysGroups_148 rfl ?_
                  refine x_imul dX4_laysGroups_149 ?_
                  refine x_iload dX4_laysGroups_150 rfl ?_
                  refine x_iadd dX4_laysGroups_152 ?_
                  refine x_aload_n dX4_laysGroups_153 rfl ?_
                  refine m_getA (kf := 35) 35 (a := 383) (by decide) rfl rfl q2150 rfl rfl dX4_laysGroups_154 ?_
                  refine x_bipush dX4_laysGroups_157 (by decide) ?_
                  refine x_iload_n dX4_laysGroups_159 rfl ?_
                  refine x_imul dX4_laysGroups_160 ?_
                  refine x_iload_n dX4_laysGroups_161 rfl ?_
                  refine x_iadd dX4_laysGroups_162 ?_
                  refine m_iald (n := 40) rfl rfl (by decide) (by omega) dX4_laysGroups_163 ?_
                  rw [stA_same]
                  refine m_iast (n := 40) rfl rfl (by decide) (by omega) dX4_laysGroups_164 ?_
                  rw [stA_set]
                  refine x_iconst dX4_laysGroups_165 ?_
                  refine x_istore_n dX4_laysGroups_166 (by decide) ?_
                  refine x_iinc dX4_laysGroups_167 rfl (by decide) ?_
                  refine x_goto (t := 54) dX4_laysGroups_170 (by decide) ?_
                  exact x_loc (by repeat first | exact trivial | refine ⟨Or.inr rfl, ?_⟩ | refine ⟨Or.inl rfl, ?_⟩) hgo
            · skip
              refine x_aload_n dX4_laysGroups_79 rfl ?_
              refine m_getA (kf := 34) 34 (a := 382) (by decide) rfl rfl q2149 rfl rfl dX4_laysGroups_80 ?_
              refine x_iload_n dX4_laysGroups_83 rfl ?_
              refine x_aload_n dX4_laysGroups_84 rfl ?_
              refine m_getA (kf := 18) 18 (a := 371) (by decide) rfl rfl q2133 rfl rfl dX4_laysGroups_85 ?_
              refine x_iload_n dX4_laysGroups_88 rfl ?_
              refine m_iald (n := 20) rfl rfl (by decide) (by omega) dX4_laysGroups_89 ?_
              rw [e371]
              refine x_aload_n dX4_laysGroups_90 rfl ?_
              refine m_getA (kf := 18) 18 (a := 371) (by decide) rfl rfl q2133 rfl rfl dX4_laysGroups_91 ?_
              refine x_iload dX4_laysGroups_94 rfl ?_
              refine m_iald (n := 20) rfl rfl (by decide) (by omega) dX4_laysGroups_96 ?_
              rw [e371]
              refine m_cs3 (c_clueAt) fX4_clueAt q2491 (by decide) (Nat.le_of_ble_eq_true rfl) dX4_laysGroups_97 ?_
              refine m_zald (n := 800) rfl rfl (by decide) (by omega) dX4_laysGroups_100 ?_
              rw [e382, hcl]
              refine x_if_eq (t := 108) dX4_laysGroups_101 (by decide) (by omega) (fun c_101 => ?_) (fun c_101 => ?_)
              · skip
                refine x_iconst dX4_laysGroups_108 ?_
                refine x_top (bi (tog I P k a b)) (by
                  first
                  | exact (bi_t (Or.inl c_76)).symm
                  | exact (bi_t (Or.inr (Classical.byContradiction fun z => c_101 (bi_f z)))).symm
                  | exact (bi_f (fun z => z.elim c_76 (fun z => by rw [bi_t z] at c_101; omega))).symm) ?_
                refine x_istore dX4_laysGroups_109 (by decide) ?_
                refine x_iload dX4_laysGroups_111 rfl ?_
                refine x_if_eq (t := 167) dX4_laysGroups_113 (by decide) (by omega) (fun c_113 => ?_) (fun c_113 => ?_)
                · skip
                  have hno : ¬ tog I P k a b := fun z => by rw [bi_t z] at c_113; omega
                  have hgo := hskip (by omega) (fun _ _ h => absurd h hno)
                  refine x_iinc dX4_laysGroups_167 rfl (by decide) ?_
                  refine x_goto (t := 54) dX4_laysGroups_170 (by decide) ?_
                  exact x_loc (by repeat first | exact trivial | refine ⟨Or.inr rfl, ?_⟩ | refine ⟨Or.inl rfl, ?_⟩) hgo
                · skip
                  have hyes : tog I P k a b := Classical.byContradiction fun z => c_113 (bi_f z)
                  refine x_aload_n dX4_laysGroups_116 rfl ?_
                  refine m_getA (kf := 35) 35 (a := 383) (by decide) rfl rfl q2150 rfl rfl dX4_laysGroups_117 ?_
                  refine x_bipush dX4_laysGroups_120 (by decide) ?_
                  refine x_iload_n dX4_laysGroups_122 rfl ?_
                  refine x_imul dX4_laysGroups_123 ?_
                  refine x_iload_n dX4_laysGroups_124 rfl ?_
                  refine x_iadd dX4_laysGroups_125 ?_
                  refine m_iald (n := 40) rfl rfl (by decide) (by omega) dX4_laysGroups_126 ?_
                  rw [stA_same]
                  refine x_aload_n dX4_laysGroups_127 rfl ?_
                  refine m_getA (kf := 35) 35 (a := 383) (by decide) rfl rfl q2150 rfl rfl dX4_laysGroups_128 ?_
                  refine x_bipush dX4_laysGroups_131 (by decide) ?_
                  refine x_iload_n dX4_laysGroups_133 rfl ?_
                  refine x_imul dX4_laysGroups_134 ?_
                  refine x_iload dX4_laysGroups_135 rfl ?_
                  refine x_iadd dX4_laysGroups_137 ?_
                  refine m_iald (n := 40) rfl rfl (by decide) (by omega) dX4_laysGroups_138 ?_
                  rw [stA_same]
                  refine x_top (sh k s2 b) rfl ?_
                  refine x_icmp_ge (t := 167) dX4_laysGroups_139 (by decide) (by simp only [sh] at *; omega) (fun c_139 => ?_) (fun c_139 => ?_)
                  · skip
                    have hgo := hskip (by omega) (fun _ e _ => by rw [e] at c_139; simp only [sh] at *; omega)
                    refine x_iinc dX4_laysGroups_167 rfl (by decide) ?_
                    refine x_goto (t := 54) dX4_laysGroups_170 (by decide) ?_
                    exact x_loc (by repeat first | exact trivial | refine ⟨Or.inr rfl, ?_⟩ | refine ⟨Or.inl rfl, ?_⟩) hgo
                  · skip
                    have c_139 : sh k s2 a < sh k s2 b := by simp only [sh] at *; omega
                    have hsm := smN_lt (sh k s2) N (b := b) (v := sh k s2 a) (by omega) (by omega)
                    rw [← sh_up] at hsm
                    have hinv : GrInv I P k (upA s2 (20 * k + b) (sh k s2 a)) := ⟨fun j hj => by rw [upA_n _ _ (by omega)]; exact hs2.1 j hj, by
                      rw [sh_up]
                      exact sg_pass hs2.2 ⟨ha.1, by omega⟩ ⟨hb.1, by omega⟩ c_139 hyes⟩
                    have hgo := ih4 (b + 1, 1, upA s2 (20 * k + b) (sh k s2 a)) ⟨by simp only; omega, hinv, Or.inl ⟨rfl, by
                      rcases hc2 with g | g
                      · have := g.2; simp only; omega
                      · rw [g.2.1] at hsm; simp only; rw [g.2.1]; omega⟩⟩ (by simp only; omega)
                    refine x_aload_n dX4_laysGroups_142 rfl ?_
                    refine m_getA (kf := 35) 35 (a := 383) (by decide) rfl rfl q2150 rfl rfl dX4_laysGroups_143 ?_
                    refine x_bipush dX4_laysGroups_146 (by decide) ?_
                    refine x_iload_n dX4_laysGroups_148 rfl ?_
                    refine x_imul dX4_laysGroups_149 ?_
                    refine x_iload dX4_laysGroups_150 rfl ?_
                    refine x_iadd dX4_laysGroups_152 ?_
                    refine x_aload_n dX4_laysGroups_153 rfl ?_
                    refine m_getA (kf := 35) 35 (a := 383) (by decide) rfl rfl q2150 rfl rfl dX4_laysGroups_154 ?_
                    refine x_bipush dX4_laysGroups_157 (by decide) ?_
                    refine x_iload_n dX4_laysGroups_159 rfl ?_
                    refine x_imul dX4_laysGroups_160 ?_
                    refine x_iload_n dX4_laysGroups_161 rfl ?_
                    refine x_iadd dX4_laysGroups_162 ?_
                    refine m_iald (n := 40) rfl rfl (by decide) (by omega) dX4_laysGroups_163 ?_
                    rw [stA_same]
                    refine m_iast (n := 40) rfl rfl (by decide) (by omega) dX4_laysGroups_164 ?_
                    rw [stA_set]
                    refine x_iconst dX4_laysGroups_165 ?_
                    refine x_istore_n dX4_laysGroups_166 (by decide) ?_
                    refine x_iinc dX4_laysGroups_167 rfl (by decide) ?_
                    refine x_goto (t := 54) dX4_laysGroups_170 (by decide) ?_
                    exact x_loc (by repeat first | exact trivial | refine ⟨Or.inr rfl, ?_⟩ | refine ⟨Or.inl rfl, ?_⟩) hgo
              · skip
                refine x_iconst dX4_laysGroups_104 ?_
                refine x_goto (t := 109) dX4_laysGroups_105 (by decide) ?_
                refine x_top (bi (tog I P k a b)) (by
                  first
                  | exact (bi_t (Or.inl c_76)).symm
                  | exact (bi_t (Or.inr (Classical.byContradiction fun z => c_101 (bi_f z)))).symm
                  | exact (bi_f (fun z => z.elim c_76 (fun z => by rw [bi_t z] at c_101; omega))).symm) ?_
                refine x_istore dX4_laysGroups_109 (by decide) ?_
                refine x_iload dX4_laysGroups_111 rfl ?_
                refine x_if_eq (t := 167) dX4_laysGroups_113 (by decide) (by omega) (fun c_113 => ?_) (fun c_113 => ?_)
                · skip
                  have hno : ¬ tog I P k a b := fun z => by rw [bi_t z] at c_113; omega
                  have hgo := hskip (by omega) (fun _ _ h => absurd h hno)
                  refine x_iinc dX4_laysGroups_167 rfl (by decide) ?_
                  refine x_goto (t := 54) dX4_laysGroups_170 (by decide) ?_
                  exact x_loc (by repeat first | exact trivial | refine ⟨Or.inr rfl, ?_⟩ | refine ⟨Or.inl rfl, ?_⟩) hgo
                · skip
                  have hyes : tog I P k a b := Classical.byContradiction fun z => c_113 (bi_f z)
                  refine x_aload_n dX4_laysGroups_116 rfl ?_
                  refine m_getA (kf := 35) 35 (a := 383) (by decide) rfl rfl q2150 rfl rfl dX4_laysGroups_117 ?_
                  refine x_bipush dX4_laysGroups_120 (by decide) ?_
                  refine x_iload_n dX4_laysGroups_122 rfl ?_
                  refine x_imul dX4_laysGroups_123 ?_
                  refine x_iload_n dX4_laysGroups_124 rfl ?_
                  refine x_iadd dX4_laysGroups_125 ?_
                  refine m_iald (n := 40) rfl rfl (by decide) (by omega) dX4_laysGroups_126 ?_
                  rw [stA_same]
                  refine x_aload_n dX4_laysGroups_127 rfl ?_
                  refine m_getA (kf := 35) 35 (a := 383) (by decide) rfl rfl q2150 rfl rfl dX4_laysGroups_128 ?_
                  refine x_bipush dX4_laysGroups_131 (by decide) ?_
                  refine x_iload_n dX4_laysGroups_133 rfl ?_
                  refine x_imul dX4_laysGroups_134 ?_
                  refine x_iload dX4_laysGroups_135 rfl ?_
                  refine x_iadd dX4_laysGroups_137 ?_
                  refine m_iald (n := 40) rfl rfl (by decide) (by omega) dX4_laysGroups_138 ?_
                  rw [stA_same]
                  refine x_top (sh k s2 b) rfl ?_
                  refine x_icmp_ge (t := 167) dX4_laysGroups_139 (by decide) (by simp only [sh] at *; omega) (fun c_139 => ?_) (fun c_139 => ?_)
                  · skip
                    have hgo := hskip (by omega) (fun _ e _ => by rw [e] at c_139; simp only [sh] at *; omega)
                    refine x_iinc dX4_laysGroups_167 rfl (by decide) ?_
                    refine x_goto (t := 54) dX4_laysGroups_170 (by decide) ?_
                    exact x_loc (by repeat first | exact trivial | refine ⟨Or.inr rfl, ?_⟩ | refine ⟨Or.inl rfl, ?_⟩) hgo
                  · skip
                    have c_139 : sh k s2 a < sh k s2 b := by simp only [sh] at *; omega
                    have hsm := smN_lt (sh k s2) N (b := b) (v := sh k s2 a) (by omega) (by omega)
                    rw [← sh_up] at hsm
                    have hinv : GrInv I P k (upA s2 (20 * k + b) (sh k s2 a)) := ⟨fun j hj => by rw [upA_n _ _ (by omega)]; exact hs2.1 j hj, by
                      rw [sh_up]
                      exact sg_pass hs2.2 ⟨ha.1, by omega⟩ ⟨hb.1, by omega⟩ c_139 hyes⟩
                    have hgo := ih4 (b + 1, 1, upA s2 (20 * k + b) (sh k s2 a)) ⟨by simp only; omega, hinv, Or.inl ⟨rfl, by
                      rcases hc2 with g | g
                      · have := g.2; simp only; omega
                      · rw [g.2.1] at hsm; simp only; rw [g.2.1]; omega⟩⟩ (by simp only; omega)
                    refine x_aload_n dX4_laysGroups_142 rfl ?_
                    refine m_getA (kf := 35) 35 (a := 383) (by decide) rfl rfl q2150 rfl rfl dX4_laysGroups_143 ?_
                    refine x_bipush dX4_laysGroups_146 (by decide) ?_
                    refine x_iload_n dX4_laysGroups_148 rfl ?_
                    refine x_imul dX4_laysGroups_149 ?_
                    refine x_iload dX4_laysGroups_150 rfl ?_
                    refine x_iadd dX4_laysGroups_152 ?_
                    refine x_aload_n dX4_laysGroups_153 rfl ?_
                    refine m_getA (kf := 35) 35 (a := 383) (by decide) rfl rfl q2150 rfl rfl dX4_laysGroups_154 ?_
                    refine x_bipush dX4_laysGroups_157 (by decide) ?_
                    refine x_iload_n dX4_laysGroups_159 rfl ?_
                    refine x_imul dX4_laysGroups_160 ?_
                    refine x_iload_n dX4_laysGroups_161 rfl ?_
                    refine x_iadd dX4_laysGroups_162 ?_
                    refine m_iald (n := 40) rfl rfl (by decide) (by omega) dX4_laysGroups_163 ?_
                    rw [stA_same]
                    refine m_iast (n := 40) rfl rfl (by decide) (by omega) dX4_laysGroups_164 ?_
                    rw [stA_set]
                    refine x_iconst dX4_laysGroups_165 ?_
                    refine x_istore_n dX4_laysGroups_166 (by decide) ?_
                    refine x_iinc dX4_laysGroups_167 rfl (by decide) ?_
                    refine x_goto (t := 54) dX4_laysGroups_170 (by decide) ?_
                    exact x_loc (by repeat first | exact trivial | refine ⟨Or.inr rfl, ?_⟩ | refine ⟨Or.inl rfl, ?_⟩) hgo
    · dsimp only
      have e : sh k (gr0 I k (I 360 4)) f = I 371 f := by
        simp only [sh, gr0]; rw [if_pos (by omega)]; congr 1; omega
      rw [e]
      have h3 := hsg f h1 h2
      exact ⟨h3.1, Con.of ⟨⟨h1, h2⟩, ⟨h3.1.1, by omega⟩, Or.inl h3.2.symm⟩⟩
  · skip
    refine x_aload_n dX4_laysGroups_10 rfl ?_
    refine m_getA (kf := 35) 35 (a := 383) (by decide) rfl rfl q2150 rfl rfl dX4_laysGroups_11 ?_
    refine x_bipush dX4_laysGroups_14 (by decide) ?_
    refine x_iload_n dX4_laysGroups_16 rfl ?_
    refine x_imul dX4_laysGroups_17 ?_
    refine x_iload_n dX4_laysGroups_18 rfl ?_
    refine x_iadd dX4_laysGroups_19 ?_
    refine x_aload_n dX4_laysGroups_20 rfl ?_
    refine m_getA (kf := 18) 18 (a := 371) (by decide) rfl rfl q2133 rfl rfl dX4_laysGroups_21 ?_
    refine x_iload_n dX4_laysGroups_24 rfl ?_
    refine m_iald (n := 20) rfl rfl (by decide) (by omega) dX4_laysGroups_25 ?_
    rw [e371]
    refine m_iast (n := 40) rfl rfl (by decide) (by omega) dX4_laysGroups_26 ?_
    rw [stA_set, gr0_s _ _ hq.1]
    refine x_iinc dX4_laysGroups_27 rfl (by decide) ?_
    refine x_goto (t := 2) dX4_laysGroups_30 (by decide) ?_
    exact ih (q + 1) (by omega) (by omega)
