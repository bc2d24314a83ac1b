/-! SYSTEM 3: classes, laysSigns -/
set_option maxRecDepth 100000
def UfI (r : Int → Int → Prop) (n : Int) (I : Nat → Int → Int) (o : Nat) (Pr : Int → Int → Prop) (I1 : Nat → Int → Int) : Prop := (∀ x, x ≠ o → I1 x = I x) ∧ Dn (I1 o) ∧ Ed r n (I1 o) ∧ ∀ a b, 0 ≤ a → a < n → 0 ≤ b → b < n → Pr a b → r a b → rt (I1 o) a = rt (I1 o) b
section UF
variable {G : rr_G} {nx : Nat} {K N : Nat → Nat} {I I1 I2 : Nat → Int → Int} {R : Nat → Int → Option Nat} {T : Nat} {r : Int → Int → Prop} {n : Int} {o : Nat} {Pr Pr' : Int → Int → Prop}
theorem UfI.no (h : UfI r n I o Pr I1) (hPr : ∀ a b, 0 ≤ a → a < n → 0 ≤ b → b < n → r a b → Pr' a b → Pr a b) : UfI r n I o Pr' I1 :=
  ⟨h.1, h.2.1, h.2.2.1, fun a b h1 h2 h3 h4 h5 h6 => h.2.2.2 a b h1 h2 h3 h4 (hPr a b h1 h2 h3 h4 h6 h5) h6⟩
theorem UfI.yes (h : UfI r n I o Pr I1) (hn : n ≤ 20) {p q : Int} (hp : 0 ≤ p ∧ p < n) (hq : 0 ≤ q ∧ q < n) (hr : r p q) (hPr : ∀ a b, 0 ≤ a → a < n → 0 ≤ b → b < n → r a b → Pr' a b → Pr a b ∨ (a = p ∧ b = q)) : UfI r n I o Pr' (rr_u2 I1 o (max (rt (I1 o) p) (rt (I1 o) q)) (min (rt (I1 o) p) (rt (I1 o) q))) := by
  obtain ⟨h1, h2, h3, h4⟩ := h
  have j1 := h2.join (a := p) (b := q) (by omega) (by omega)
  have j2 := h2.join2 (a := p) (b := q) (by omega) (by omega)
  refine ⟨fun x hx => by rw [rr_u2_of hx]; exact h1 x hx, by rw [rr_u2_upA]; exact j1.1, by rw [rr_u2_upA]; exact h3.join h2 hn hp hq hr, fun a b a1 a2 b1 b2 hP hab => ?_⟩
  rw [rr_u2_upA]
  rcases hPr a b a1 a2 b1 b2 hab hP with h | ⟨rfl, rfl⟩
  · exact j2.1 a b a1 (by omega) b1 (by omega) (h4 a b a1 a2 b1 b2 h hab)
  · exact j2.2
theorem UfI.zero (h : PaP I o 20 I1) (hn : n ≤ 20) (hPr : ∀ a b, 0 ≤ a → a < n → 0 ≤ b → b < n → ¬ Pr a b) : UfI r n I o Pr I1 :=
  ⟨h.1, fun k h0 h1 => by rw [h.2 k h0 h1]; omega, fun f h0 h1 => by rw [h.2 f h0 (by omega)]; exact Con.rf _ _, fun a b a1 a2 b1 b2 hP => absurd hP (hPr a b a1 a2 b1 b2)⟩
/-- ways are made short up to q -/
def UfC (I0 : Nat → Int → Int) (o : Nat) (q : Int) (I1 : Nat → Int → Int) : Prop := (∀ x, x ≠ o → I1 x = I0 x) ∧ Dn (I1 o) ∧ (∀ k, 0 ≤ k → k < 20 → rt (I1 o) k = rt (I0 o) k) ∧ ∀ k, 0 ≤ k → k < q → I1 o k = rt (I0 o) k
theorem UfC.step {I0 : Nat → Int → Int} {q : Int} (h : UfC I0 o q I1) (hq : 0 ≤ q ∧ q < 20) : UfC I0 o (q + 1) (rr_u2 I1 o q (rt (I1 o) q)) := by
  obtain ⟨h1, h2, h3, h4⟩ := h
  have h5 := rt_spec h2 q hq.1 hq.2
  refine ⟨fun x hx => by rw [rr_u2_of hx]; exact h1 x hx, by rw [rr_u2_upA]; exact h2.up h5.1, fun k k1 k2 => by rw [rr_u2_upA, rt_short h2 hq k k1 k2]; exact h3 k k1 k2, fun k k1 k2 => ?_⟩
  rw [rr_u2_upA]
  by_cases e : k = q
  · rw [e, upA_s]; exact h3 q hq.1 hq.2
  · rw [upA_n _ _ e]; exact h4 k k1 (by omega)
/-- the classes of a relation, by their least ones -/
def Cls (r : Int → Int → Prop) (n : Int) (s : Int → Int) : Prop := Least r n s ∧ (∀ f, 0 ≤ f → f < n → Con (In2 n r) f (s f)) ∧ ∀ f, 0 ≤ f → f < 20 → (0 ≤ s f ∧ s f ≤ f) ∧ s (s f) = s f
def ClP (r : Int → Int → Prop) (n : Int) (o : Nat) (I I2 : Nat → Int → Int) : Prop := (∀ x, x ≠ o → I2 x = I x) ∧ Cls r n (I2 o)
theorem UfC.done {I0 : Nat → Int → Int} (hn : n ≤ 20) (hu : UfI r n I o Pr I0) (hs : ∀ a b, 0 ≤ a → a < n → 0 ≤ b → b < n → r a b → r b a) (hPr : ∀ a b, 0 ≤ a → a < n → 0 ≤ b → b < n → r a b → a = b ∨ Pr a b ∨ Pr b a) (h : UfC I0 o 20 I1) : ClP r n o I I1 := by
  obtain ⟨h1, h2, h3, h4⟩ := hu
  have hl := h2.least hn h3 (fun a b a1 a2 b1 b2 hab => by
    rcases hPr a b a1 a2 b1 b2 hab with rfl | q | q
    · rfl
    · exact h4 a b a1 a2 b1 b2 q hab
    · exact (h4 b a b1 b2 a1 a2 q (hs a b a1 a2 b1 b2 hab)).symm)
  have e : ∀ f, 0 ≤ f → f < 20 → I1 o f = rt (I0 o) f := fun f f1 f2 => h.2.2.2 f f1 f2
  refine ⟨fun x hx => by rw [h.1 x hx]; exact h1 x hx, fun f f1 f2 => ?_, fun f f1 f2 => by rw [e f f1 (by omega)]; exact hl.2 f f1 f2, fun f f1 f2 => ?_⟩
  · have := hl.1 f f1 f2
    rw [e f f1 (by omega)]
    exact ⟨this.1, this.2.1, fun g g1 g2 hg => by rw [e g g1 (by omega)]; exact this.2.2 g g1 g2 hg⟩
  · have := rt_spec h2 f f1 f2
    rw [e f f1 f2, e _ this.1.1 (by omega)]
    exact ⟨this.1, rt_fix h2 this.1.1 (by omega) this.2⟩
theorem jc_classes {b : Nat} (hs : Ss K N R) (ht : Td K N R T) (hf : 0 ≤ I T 0 ∧ I T 0 ≤ 20) (hb : K b = 64 ∧ N b = 20) (ho : K o = 64 ∧ N o = 20 ∧ 300 ≤ o) (hbo : b ≠ o) (hr : ∀ x y, 0 ≤ x → x < I T 0 → 0 ≤ y → y < I T 0 → (tb (I b x) y ↔ r x y)) (hsy : ∀ x y, 0 ≤ x → x < I T 0 → 0 ≤ y → y < I T 0 → r x y → r y x) : gW G yX0_classes cX0_classes 5 (none) 22 0 0 [vR (some 300), vR (some b), vR (some o)] (K, N, I, R) nx (gI K N R nx (ClP r (I T 0) o I)) := by
  have hTo : T ≠ o := fun q => by have h1 := ht.k; rw [q] at h1; omega
  refine gW.of (by decide) rfl (Nat.le_of_ble_eq_true rfl) ?_
  refine x_ls (ls2 := [some (vR (some 300)), some (vR (some b)), some (vR (some o)), none, none]) rfl ?_
  refine x_aload_n dX0_classes_0 rfl ?_
  refine g_ct1 (jc_parts ho.1 ho.2.1 ho.2.2) fX0_parts q315 (by decide) (Nat.le_of_ble_eq_true rfl) (by omega) (by omega) dX0_classes_1 (fun h2 n2 hp => ?_)
  obtain ⟨rfl, I0, rfl, hI0⟩ := hp
  refine x_iconst dX0_classes_4 ?_
  refine x_istore_n dX0_classes_5 (by decide) ?_
  refine x_ls (ls2 := [some (vR (some 300)), some (vR (some b)), some (vR (some o)), some (vI 0), none]) rfl ?_
  have fin : ∀ I1, UfI r (I T 0) I o (fun x y => y < x ∧ x < I T 0) I1 → ∀ z3 z, gw G yX0_classes cX0_classes 5 (none) 22 0 0 (gI K N R nx (ClP r (I T 0) o I)) 57 [some (vR (some 300)), some (vR (some b)), some (vR (some o)), z3, z] [] (K, N, I1, R) nx 0 0 := by
    intro I0 hI0 z3 z
    refine x_iconst dX0_classes_57 ?_
    refine x_istore_n dX0_classes_58 (by decide) ?_
    refine x_ls (ls2 := [some (vR (some 300)), some (vR (some b)), some (vR (some o)), some (vI 0), z]) rfl ?_
    refine s_for (W := fun (q : Int) (I1 : Nat → Int → Int) => gw G yX0_classes cX0_classes 5 (none) 22 0 0 (gI K N R nx (ClP r (I T 0) o I)) 59 [some (vR (some 300)), some (vR (some b)), some (vR (some o)), some (vI q), z] [] (K, N, I1, R) nx 0 0) (fun q I1 => UfC I0 o q I1) 0 20 I0 (by omega) ⟨fun _ _ => rfl, hI0.2.1, fun _ _ _ => rfl, fun k h1 h2 => by omega⟩ ?_
    intro q I1 h0 hq hu ih
    refine x_iload_n dX0_classes_59 rfl ?_
    refine x_bipush dX0_classes_60 (by decide) ?_
    refine x_icmp_ge (t := 79) dX0_classes_62 (by decide) (by omega) (fun c_62 => ?_) (fun c_62 => ?_)
    · skip
      refine gw_vret rfl dX0_classes_79 (by omega) (by omega) ?_
      exact ⟨rfl, I1, rfl, UfC.done hf.2 hI0 hsy (fun x y x1 x2 y1 y2 _ => by omega) (by rw [show (20 : Int) = q by omega]; exact hu)⟩
    · skip
      refine x_aload_n dX0_classes_65 rfl ?_
      refine x_iload_n dX0_classes_66 rfl ?_
      refine x_aload_n dX0_classes_67 rfl ?_
      refine x_iload_n dX0_classes_68 rfl ?_
      refine g_cs2 (jc_root ho.1 ho.2.1 hu.2.1 20 q (by omega) (by omega) (by omega)) fX0_root q324 (by decide) (Nat.le_of_ble_eq_true rfl) (by omega) (by omega) dX0_classes_69 (fun v h2 n2 hp => ?_)
      obtain ⟨rfl, rfl, rfl⟩ := hp
      refine g_iast (ho.1) (ho.2.2) rfl (by omega) dX0_classes_72 ?_
      refine x_iinc dX0_classes_73 rfl (by decide) ?_
      refine x_goto (t := 59) dX0_classes_76 (by decide) ?_
      exact ih _ (by omega) (hu.step (by omega))
  refine s_for (W := fun (q : Int) (s : (Nat → Int → Int) × Option rr_V) => gw G yX0_classes cX0_classes 5 (none) 22 0 0 (gI K N R nx (ClP r (I T 0) o I)) 6 [some (vR (some 300)), some (vR (some b)), some (vR (some o)), some (vI q), s.2] [] (K, N, s.1, R) nx 0 0) (fun q s => UfI r (I T 0) I o (fun x y => y < x ∧ x < q) s.1) 0 (I T 0) (I0, none) (by omega) (UfI.zero hI0 hf.2 (fun _ _ _ _ _ _ => by omega)) ?_
  rintro q ⟨I1, z⟩ h0 hq hu ih
  simp only at hu ih ⊢
  have hT1 : I1 T = I T := hu.1 T hTo
  refine x_iload_n dX0_classes_6 rfl ?_
  refine x_aload_n dX0_classes_7 rfl ?_
  refine g_getR 2 (r := some T) (ci := 1) (kf := 2) rfl (by decide) (by decide) rfl rfl q1307 rfl (hs.k 300 (by decide)) (ht.t) dX0_classes_8 ?_
  refine g_getIN 0 (ci := 3) (kf := 0) rfl (by decide) (by decide) rfl rfl q210 rfl (ht.k) dX0_classes_11 ?_
  rw [hT1]
  refine x_icmp_ge (t := 57) dX0_classes_14 (by decide) (by omega) (fun c_14 => ?_) (fun c_14 => ?_)
  · skip
    exact fin I1 (hu.no (fun x y _ _ _ _ _ h => ⟨h.1, by omega⟩)) _ _
  · skip
    refine x_iconst dX0_classes_17 ?_
    refine x_istore dX0_classes_18 (by decide) ?_
    refine x_ls (ls2 := [some (vR (some 300)), some (vR (some b)), some (vR (some o)), some (vI q), some (vI 0)]) rfl ?_
    refine s_for (W := fun (p : Int) (I1 : Nat → Int → Int) => gw G yX0_classes cX0_classes 5 (none) 22 0 0 (gI K N R nx (ClP r (I T 0) o I)) 20 [some (vR (some 300)), some (vR (some b)), some (vR (some o)), some (vI q), some (vI p)] [] (K, N, I1, R) nx 0 0) (fun p I1 => UfI r (I T 0) I o (fun x y => y < x ∧ (x < q ∨ x = q ∧ y < p)) I1) 0 q I1 (by omega) (hu.no (fun x y _ _ _ _ _ h => by omega)) ?_
    clear hT1 hu
    intro p I1 hp0 hpq hu ih2
    have hb1 : I1 b = I b := hu.1 b hbo
    have hrq := hr q p (by omega)
    refine x_iload dX0_classes_20 rfl ?_
    refine x_iload_n dX0_classes_22 rfl ?_
    refine x_icmp_ge (t := 51) dX0_classes_23 (by decide) (by omega) (fun c_23 => ?_) (fun c_23 => ?_)
    · skip
      refine x_iinc dX0_classes_51 rfl (by decide) ?_
      refine x_goto (t := 6) dX0_classes_54 (by decide) ?_
      exact ih (_, _) (by omega) (hu.no (fun x y _ _ _ _ _ h => by omega))
    · skip
      refine x_aload_n dX0_classes_26 rfl ?_
      refine x_iload_n dX0_classes_27 rfl ?_
      refine g_iald (hb.1) rfl (by omega) dX0_classes_28 ?_
      rw [hb1]
      refine x_iload dX0_classes_29 rfl ?_
      refine g_cs2 (jc_has (by omega)) fX0_has q318 (by decide) (Nat.le_of_ble_eq_true rfl) (by omega) (by omega) dX0_classes_31 (fun v h2 n2 hp => ?_)
      obtain ⟨rfl, rfl, rfl⟩ := hp
      refine x_if_eq_b (t := 45) dX0_classes_34 (by decide) (fun c_34 => ?_) (fun c_34 => ?_)
      · skip
        refine x_iinc dX0_classes_45 rfl (by decide) ?_
        refine x_goto (t := 20) dX0_classes_48 (by decide) ?_
        exact ih2 _ (by omega) (hu.no (fun x y _ _ _ _ hxy h => by rcases Decidable.em (x = q ∧ y = p) with ⟨rfl, rfl⟩ | e; exact absurd ((hrq (by omega) (by omega) (by omega)).mpr hxy) c_34; omega))
      · skip
        refine x_aload_n dX0_classes_37 rfl ?_
        refine x_iload_n dX0_classes_38 rfl ?_
        refine x_iload dX0_classes_39 rfl ?_
        refine g_cs3 (jc_joins ho.1 ho.2.1 ho.2.2 hu.2.1 (by omega) (by omega)) fX0_joins q321 (by decide) (Nat.le_of_ble_eq_true rfl) (by omega) (by omega) dX0_classes_41 (fun v h2 n2 hp => ?_)
        obtain ⟨rfl, rfl, rfl⟩ := hp
        refine x_pop dX0_classes_44 rfl ?_
        refine x_iinc dX0_classes_45 rfl (by decide) ?_
        refine x_goto (t := 20) dX0_classes_48 (by decide) ?_
        exact ih2 _ (by omega) (hu.yes hf.2 (p := q) (q := p) (by omega) (by omega) ((hrq (by omega) (by omega) (by omega)).mp c_34) (fun x y _ _ _ _ _ h => by omega))
end UF
