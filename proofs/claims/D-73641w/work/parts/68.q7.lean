/-! QUEUES 7: offer and poll (printed by tools/gen_q6.py) -/
set_option maxRecDepth 100000
section PQ
variable {G : rr_G} {nx : Nat} {K N : Nat → Nat} {I : Nat → Int → Int} {R : Nat → Int → Option Nat} {A o P : Nat} {v : Nat → Nat} {n k : Nat} {c : Option Nat} {cu su : Nat}
theorem jc_siftUpD_T {x : Nat} (hP : K P = 21) (hc : R P 2 = none) (hq0 : R P 0 = some A) (hA : K A = 67) (hA3 : 300 ≤ A) (hN : n ≤ N A ∧ N A < 1000) (hk : k < n) (hx : v k = x) (hv : ∀ i : Nat, i < n → TwO K I (v i)) (hu : Hu (prT I) v n k) (hij : Ij v n) (har : ArX R A v n k) : gW G yJ30_siftUp cJ30_siftUp 3 (none) 4 0 0 [vR (some P), vI (k : Int), vR (some x)] (K, N, I, R) nx (SfP K N I R nx A (prT I) v n) := by
  have hxo : TwO K I x := by rw [← hx]; exact hv k hk
  have hKx := hxo.1
  refine gW.of (by decide) rfl (Nat.le_of_ble_eq_true rfl) ?_
  refine x_ls (ls2 := [some (vR (some P)), some (vI (k : Int)), some (vR (some x))]) rfl ?_
  refine x_aload_n dJ30_siftUp_0 rfl ?_
  refine g_getR 2 (r := none) (ci := 21) (kf := 2) rfl (by decide) (by decide) rfl rfl q1544 rfl (by first | assumption | grind) (hc) dJ30_siftUp_1 ?_
  refine x_ifnull_y (t := 23) dJ30_siftUp_4 (by decide) ?_
  refine x_iload_n dJ30_siftUp_23 rfl ?_
  refine x_aload_n dJ30_siftUp_24 rfl ?_
  refine x_aload_n dJ30_siftUp_25 rfl ?_
  refine g_getR 0 (r := some A) (ci := 21) (kf := 0) rfl (by decide) (by decide) rfl rfl q1541 rfl (by first | assumption | grind) (hq0) dJ30_siftUp_26 ?_
  refine g_ct3 (jc_siftUp_T hA hA3 hN hk hx hv hu hij har) fJ30_siftUpComparable q1649 (by decide) (Nat.le_of_ble_eq_true rfl) (by omega) (by omega) dJ30_siftUp_29 (fun h2 n2 hp => ?_)
  refine gw_vret rfl dJ30_siftUp_32 (by omega) (by omega) ?_
  exact hp
theorem jc_offT_T {x : Nat} {pr : Nat → Int} {Q : rr_V → rr_H → Nat → Prop} (hpo : ∀ w h2 n2, TlP K N I R nx P A pr v n x w h2 n2 → Q w h2 n2) (hpr : ∀ y, (y = x ∨ Mm v n y) → prT I y = pr y) (hP : K P = 21) (hP3 : 300 ≤ P) (hc : R P 2 = none) (hq0 : R P 0 = some A) (hA : K A = 67) (hA3 : 300 ≤ A) (hN : n < N A ∧ N A < 1000) (hx : TwO K I x) (hv : ∀ i : Nat, i < n → TwO K I (v i)) (ho : Ho pr v n) (hij : Ij v n) (hne : ∀ i, i < n → v i ≠ x) (har : ∀ i : Nat, i < n → R A i = some (v i)) (hcu : cu ≤ 1) (hsu : su ≤ 450) : gp G yJ30_offer cJ30_offer 3 ((some FieldType.boolean)) 5 1 450 Q 43 [some (vR (some P)), some (vR (some x)), some (vI (n : Int))] [] (K, N, I, R) nx cu su := by
  have hKx := hx.1
  have ho2 : Ho (prT I) v n := fun i h0 hi => by rw [hpr _ (Or.inr ⟨_, by omega, rfl⟩), hpr _ (Or.inr ⟨_, hi, rfl⟩)]; exact ho i h0 hi
  refine x_aload_n dJ30_offer_43 rfl ?_
  refine x_iload_n dJ30_offer_44 rfl ?_
  refine x_aload_n dJ30_offer_45 rfl ?_
  refine g_cw2 (ci := 21) (jc_siftUpD_T (v := fun i => if i = n then x else v i) (n := n + 1) hP hc hq0 hA hA3 (by omega) (by omega) (by simp) (fun i hi => by by_cases h : i = n; simpa [h] using hx; simpa [h] using hv i (by omega)) (Ho.add ho2) (hij.add hne) (fun i hi hne2 => by simpa [hne2] using har i (by omega))) fJ30_siftUp q1640 rfl (by decide) (by first | assumption | grind) (by decide) (Nat.le_of_ble_eq_true rfl) (by omega) (by omega) dJ30_offer_46 (fun h2 n2 hp => ?_)
  obtain ⟨rfl, R2, v2, rfl, h1, h2, h3, h4, h5, h6⟩ := hp
  refine x_aload_n dJ30_offer_49 rfl ?_
  refine x_iload_n dJ30_offer_50 rfl ?_
  refine x_iconst dJ30_offer_51 ?_
  refine x_iadd dJ30_offer_52 ?_
  refine g_putI 1 (ci := 21) (kf := 1) rfl (by decide) (by decide) rfl rfl q1543 rfl (by first | assumption | grind) (by first | assumption | omega) (Or.inl rfl) (rr_nar_i _) dJ30_offer_53 ?_
  refine x_iconst dJ30_offer_56 ?_
  refine gp_zret rfl dJ30_offer_57 (by first | exact Or.inl rfl | exact Or.inr rfl | exact bi_01 _ | omega) (by omega) (by omega) ?_
  refine hpo _ _ _ ⟨rfl, rfl, R2, v2, rfl, h1, fun i h0 hi => ?_, h3, fun y => (h4 y).trans Mm.add, h5, h6⟩
  have e1 := hpr _ (Mm.add.mp ((h4 _).mp ⟨(i - 1) / 2, by omega, rfl⟩))
  have e2 := hpr _ (Mm.add.mp ((h4 _).mp ⟨i, hi, rfl⟩))
  rw [← e1, ← e2]; exact h2 i h0 hi
theorem jc_offer_T {x : Nat} (hq : Pq K N I R P A n v none) (hn : n < 260) (hm : 0 ≤ I P 3 ∧ I P 3 < 100000) (hx : TwO K I x) (hv : ∀ i : Nat, i < n → TwO K I (v i)) (ho : Ho (prT I) v n) (hij : Ij v n) (hne : ∀ i, i < n → v i ≠ x) : gP G yJ30_offer cJ30_offer 3 ((some FieldType.boolean)) 5 1 450 [vR (some P), vR (some x)] (K, N, I, R) nx (OfP K N I R nx P A none (prT I) v n x) := by
  obtain ⟨⟨hP, hA, hP3, hA3⟩, ⟨hq0, hs, hc⟩, hN, har, hnn⟩ := hq
  have hKx := hx.1
  refine gP.of (by decide) rfl (Nat.le_of_ble_eq_true rfl) ?_
  refine x_ls (ls2 := [some (vR (some P)), some (vR (some x)), none]) rfl ?_
  refine x_live (fun hlv h3 => ?_)
  have hPx : P < nx := hlv P (by show K P ≠ 0; omega)
  have hAx : A < nx := hlv A (by show K A ≠ 0; omega)
  have hPA : P ≠ A := fun q => by rw [q] at hP; omega
  have hlx : ∀ y, TwO K I y → y < nx ∧ y ≠ P ∧ y ≠ A := fun y hy => ⟨hlv y (by show K y ≠ 0; have := hy.1; omega), fun q => by have := hy.1; rw [q] at this; omega, fun q => by have := hy.1; rw [q] at this; omega⟩
  have hmem : ∀ y, (y = x ∨ Mm v n y) → TwO K I y := by
    rintro y (rfl | ⟨i, hi, rfl⟩)
    · exact hx
    · exact hv i hi
  have eI1 : ∀ y, TwO K I y → rr_u2 I P 3 (I P 3 + 1) y = I y := fun y hy => by
    funext i; rw [rr_u2_ne _ _ (fun q => (hlx y hy).2.1 q.1)]
  have eI2 : ∀ y, TwO K I y → rr_u1 (rr_u2 I P 3 (I P 3 + 1)) nx (fun _ => 0) y = I y := fun y hy => by
    rw [← eI1 y hy]; simp [rr_u1, show y ≠ nx by have := (hlx y hy).1; omega]
  refine x_aload_n dJ30_offer_0 rfl ?_
  refine x_ifnonnull_y (t := 12) dJ30_offer_1 (by decide) ?_
  refine x_aload_n dJ30_offer_12 rfl ?_
  refine x_dup dJ30_offer_13 rfl ?_
  refine g_getI 3 (ci := 21) (kf := 3) rfl (by decide) (by decide) rfl rfl q1546 rfl (by first | assumption | grind) dJ30_offer_14 ?_
  refine x_iconst dJ30_offer_17 ?_
  refine x_iadd dJ30_offer_18 ?_
  refine g_putI 3 (ci := 21) (kf := 3) rfl (by decide) (by decide) rfl rfl q1546 rfl (by first | assumption | grind) (by first | assumption | omega) (Or.inl rfl) (rr_nar_i _) dJ30_offer_19 ?_
  refine x_aload_n dJ30_offer_22 rfl ?_
  refine g_getI 1 (ci := 21) (kf := 1) rfl (by decide) (by decide) rfl rfl q1543 rfl (by first | assumption | grind) dJ30_offer_23 ?_
  rw [show rr_u2 I P 3 (I P 3 + 1) P 1 = (n : Int) by rw [rr_u2_ne _ _ (by omega)]; exact hs]
  refine x_istore_n dJ30_offer_26 (by decide) ?_
  refine x_iload_n dJ30_offer_27 rfl ?_
  refine x_aload_n dJ30_offer_28 rfl ?_
  refine g_getR 0 (r := some A) (ci := 21) (kf := 0) rfl (by decide) (by decide) rfl rfl q1541 rfl (by first | assumption | grind) (hq0) dJ30_offer_29 ?_
  refine g_alen (t := 3) rfl (by first | assumption | grind) (rfl) dJ30_offer_32 ?_
  refine x_icmp_lt (t := 43) dJ30_offer_33 (by decide) (by omega) (fun c_33 => ?_) (fun c_33 => ?_)
  · skip
    refine jc_offT_T (pr := prT I) (Q := _) ?_ (fun y hy => by unfold prT; rw [eI1 y (hmem y hy)]) hP hP3 hc hq0 hA hA3 (by omega) (by unfold TwO; rw [eI1 x hx]; exact hx) (fun i hi => by unfold TwO; rw [eI1 _ (hv i hi)]; exact hv i hi) ho hij hne har (by omega) (by omega)
    rintro w h2 n2 ⟨rfl, rfl, R2, v2, rfl, h1, h2, h3, h4, h5, h6⟩
    refine ⟨rfl, Or.inl rfl, K, N, _, R2, A, v2, rfl, ⟨⟨hP, hA, hP3, hA3⟩, ⟨by rw [h5 P hPA]; exact hq0, rr_u2_same .., by rw [h5 P hPA]; exact hc⟩, by omega, h1, fun i hi hi2 => by rw [h6 i (Or.inr hi)]; exact hnn i (by omega) hi2⟩, ?_, h2, h3, h4, Or.inl rfl, fun z hz hzP hzA => ⟨rfl, rfl, ?_, h5 z hzA⟩⟩
    · rw [rr_u2_ne _ _ (by omega), rr_u2_same]
    · funext i; rw [rr_u2_ne _ _ (fun q => hzP q.1), rr_u2_ne _ _ (fun q => hzP q.1)]
  · skip
    refine x_aload_n dJ30_offer_36 rfl ?_
    refine x_iload_n dJ30_offer_37 rfl ?_
    refine x_iconst dJ30_offer_38 ?_
    refine x_iadd dJ30_offer_39 ?_
    refine g_cw1 (ci := 21) (jc_grow hP hA hP3 hq0 (by omega) (by omega) (fun j y h1 h2 hy => by have h3 := har j.toNat (by omega); rw [show ((j.toNat : Nat) : Int) = j by omega, hy] at h3; injection h3 with h3; have := (hv j.toNat (by omega)).1; rw [← h3] at this; first | exact Or.inl this | exact Or.inr this)) fJ30_grow q1597 rfl (by decide) (by first | assumption | grind) (by decide) (Nat.le_of_ble_eq_true rfl) (by omega) (by omega) dJ30_offer_40 (fun h2 n2 hp => ?_)
    obtain ⟨rfl, f, l, rfl, hl, hf1, hf2⟩ := hp
    have hPn : P ≠ nx := by omega
    have hK2 : ∀ y, y < nx → rr_u1 K nx 67 y = K y := fun y hy => by simp [rr_u1, show y ≠ nx by omega]
    have hR2 : ∀ y, y < nx → y ≠ P → rr_u2 (rr_u1 R nx f) P 0 (some nx) y = R y := fun y hy hyP => by
      funext i; rw [rr_u2_ne _ _ (fun q => hyP q.1)]; simp [rr_u1, show y ≠ nx by omega]
    have hRP : ∀ i, i ≠ 0 → rr_u2 (rr_u1 R nx f) P 0 (some nx) P i = R P i := fun i hi => by
      rw [rr_u2_ne _ _ (fun q => hi q.2)]; simp [rr_u1, hPn]
    have hRx : ∀ i, rr_u2 (rr_u1 R nx f) P 0 (some nx) nx i = f i := fun i => by
      rw [rr_u2_ne _ _ (fun q => hPn q.1.symm)]; simp [rr_u1]
    have hEE : ∀ y, TwO K I y → TwO (rr_u1 K nx 67) (rr_u1 (rr_u2 I P 3 (I P 3 + 1)) nx (fun _ => 0)) y := fun y hy => by
      unfold TwO; rw [eI2 y hy, hK2 y (hlx y hy).1]; exact hy
    refine jc_offT_T (pr := prT I) (A := nx) (Q := _) ?_ (fun y hy => by unfold prT; rw [eI2 y (hmem y hy)]) (by rw [hK2 P hPx]; exact hP) hP3 (by rw [hRP 2 (by decide)]; exact hc) (rr_u2_same ..) (by simp [rr_u1]) h3 (by simp only [rr_u1, if_true]; omega) (hEE x hx) (fun i hi => hEE _ (hv i hi)) ho hij hne (fun i hi => by rw [hRx, hf1 i (by omega) (by omega)]; exact har i hi) (by omega) (by omega)
    rintro w h2 n2 ⟨rfl, rfl, R2, v2, rfl, h1, h2, h3', h4, h5, h6⟩
    refine ⟨rfl, Or.inr rfl, _, _, _, R2, nx, v2, rfl, ⟨⟨by rw [hK2 P hPx]; exact hP, by simp [rr_u1], hP3, h3⟩, ⟨by rw [h5 P hPn]; exact rr_u2_same .., rr_u2_same .., by rw [h5 P hPn, hRP 2 (by decide)]; exact hc⟩, by simp only [rr_u1, if_true]; omega, h1, fun i hi hi2 => by rw [h6 i (Or.inr hi), hRx]; exact hf2 i (by omega)⟩, ?_, h2, h3', h4, Or.inr rfl, fun z hz hzP hzA => ⟨hK2 z hz, by simp [rr_u1, show z ≠ nx by omega], ?_, by rw [h5 z (by omega)]; exact hR2 z hz hzP⟩⟩
    · rw [rr_u2_ne _ _ (by omega)]; simp only [rr_u1, if_neg hPn]; exact rr_u2_same ..
    · funext i; rw [rr_u2_ne _ _ (fun q => hzP q.1)]; simp only [rr_u1, if_neg (show z ≠ nx by omega)]; rw [rr_u2_ne _ _ (fun q => hzP q.1)]
end PQ
