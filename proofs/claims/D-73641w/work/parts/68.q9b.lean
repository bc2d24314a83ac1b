/-! QUEUES 9: add, poll, constructors (printed by tools/gen_q9.py) -/
set_option maxRecDepth 100000
section PQ
variable {G : rr_G} {nx : Nat} {K N : Nat → Nat} {I : Nat → Int → Int} {R : Nat → Int → Option Nat} {A o P : Nat} {v : Nat → Nat} {n k : Nat} {c : Option Nat} {cu su : Nat}
theorem jc_add_W {x : Nat} (hO : K o = 13) (hq : Pq K N I R P A n v (some o)) (hn : n < 260) (hm : 0 ≤ I P 3 ∧ I P 3 < 100000) (hx : WoO K I x) (hv : ∀ i : Nat, i < n → WoO K I (v i)) (ho : Ho (prW I) v n) (hij : Ij v n) (hne : ∀ i, i < n → v i ≠ x) : gP G yJ30_add cJ30_add 2 ((some FieldType.boolean)) 6 1 450 [vR (some P), vR (some x)] (K, N, I, R) nx (OfP K N I R nx P A (some o) (prW I) v n x) := by
  have hP := hq.1.1
  have hKx := hx.1
  refine gP.of (by decide) rfl (Nat.le_of_ble_eq_true rfl) ?_
  refine x_ls (ls2 := [some (vR (some P)), some (vR (some x))]) rfl ?_
  refine x_aload_n dJ30_add_0 rfl ?_
  refine x_aload_n dJ30_add_1 rfl ?_
  refine g_cv1 (ci := 21) (jc_offer_W hO hq hn hm hx hv ho hij hne) fJ30_offer q1593 rfl (by decide) (by first | assumption | grind) (by decide) (Nat.le_of_ble_eq_true rfl) (by omega) (by omega) dJ30_add_2 (fun v h2 n2 hp => ?_)
  obtain ⟨rfl, hp⟩ := hp
  refine gp_zret rfl dJ30_add_5 (by first | exact Or.inl rfl | exact Or.inr rfl | exact bi_01 _ | omega) (by omega) (by omega) ?_
  exact ⟨rfl, hp⟩
theorem jc_poll_W (hO : K o = 13) (hq : Pq K N I R P A n v (some o)) (hn : 0 < n) (hm : 0 ≤ I P 3 ∧ I P 3 < 100000) (hv : ∀ i : Nat, i < n → WoO K I (v i)) (ho : Ho (prW I) v n) (hij : Ij v n) : gP G yJ30_poll cJ30_poll 6 ((some (FieldType.object "java/lang/Object"))) 4 0 0 [vR (some P)] (K, N, I, R) nx (PoP K N I R nx P A (some o) (prW I) v n) := by
  obtain ⟨⟨hP, hA, hP3, hA3⟩, ⟨hq0, hs, hc⟩, hN, har, hnn⟩ := hq
  refine gP.of (by decide) rfl (Nat.le_of_ble_eq_true rfl) ?_
  refine x_ls (ls2 := [some (vR (some P)), none, none, none, none, none]) rfl ?_
  have hPA : P ≠ A := fun q => by rw [q] at hP; omega
  have hlx : ∀ y, WoO K I y → y ≠ P ∧ y ≠ A := fun y hy => ⟨fun q => by have := hy.1; rw [q] at this; omega, fun q => by have := hy.1; rw [q] at this; omega⟩
  have eI : ∀ y, WoO K I y → rr_u2 (rr_u2 I P 3 (I P 3 + 1)) P 1 ((n : Int) - 1) y = I y := fun y hy => by
    funext i; rw [rr_u2_ne _ _ (fun q => (hlx y hy).1 q.1), rr_u2_ne _ _ (fun q => (hlx y hy).1 q.1)]
  have hv0 : R A 0 = some (v 0) := har 0 hn
  have hvl : R A ((n : Int) - 1) = some (v (n - 1)) := by
    have := har (n - 1) (by omega)
    rwa [show (((n - 1 : Nat)) : Int) = (n : Int) - 1 by omega] at this
  have hIP : ∀ z, z ≠ P → rr_u2 (rr_u2 I P 3 (I P 3 + 1)) P 1 ((n : Int) - 1) z = I z := fun z hz => by
    funext i; rw [rr_u2_ne _ _ (fun q => hz q.1), rr_u2_ne _ _ (fun q => hz q.1)]
  have hI3 : rr_u2 (rr_u2 I P 3 (I P 3 + 1)) P 1 ((n : Int) - 1) P 3 = I P 3 + 1 := by
    rw [rr_u2_ne _ _ (by omega), rr_u2_same]
  have hI1 : rr_u2 (rr_u2 I P 3 (I P 3 + 1)) P 1 ((n : Int) - 1) P 1 = (((n - 1 : Nat)) : Int) := by
    rw [rr_u2_same]; omega
  have hRz : ∀ z, z ≠ A → rr_u2 R A ((n : Int) - 1) none z = R z := fun z hz => by
    funext i; rw [rr_u2_ne _ _ (fun q => hz q.1)]
  have fin : ∀ (R2 : Nat → Int → Option Nat) (v2 : Nat → Nat), (∀ i : Nat, i < n - 1 → R2 A i = some (v2 i)) → Ho (prW (rr_u2 (rr_u2 I P 3 (I P 3 + 1)) P 1 ((n : Int) - 1))) v2 (n - 1) → Ij v2 (n - 1) → (∀ y, Mm v2 (n - 1) y ↔ Mm (fun i => if i = 0 then v (n - 1) else v i) (n - 1) y) → (∀ z, z ≠ A → R2 z = rr_u2 R A ((n : Int) - 1) none z) → (∀ i : Int, (i < 0 ∨ ((n - 1 : Nat) : Int) ≤ i) → R2 A i = rr_u2 R A ((n : Int) - 1) none A i) → PoP K N I R nx P A (some o) (prW I) v n (vR (some (v 0))) (K, N, rr_u2 (rr_u2 I P 3 (I P 3 + 1)) P 1 ((n : Int) - 1), R2) nx := by
    intro R2 v2 h1 h2 h3 h4 h5 h6
    have hm2 : ∀ i, i < n - 1 → WoO K I (v2 i) := fun i hi => by
      obtain ⟨⟨j, hj, he⟩, -⟩ := (Mm.rem hn hij).mp ((h4 _).mp ⟨i, hi, rfl⟩)
      rw [← he]; exact hv j hj
    refine ⟨rfl, rfl, _, R2, v2, rfl, ⟨⟨hP, hA, hP3, hA3⟩, ⟨by rw [h5 P hPA, hRz P hPA]; exact hq0, hI1, by rw [h5 P hPA, hRz P hPA]; exact hc⟩, by omega, h1, fun i hi hi2 => ?_⟩, hI3, fun i h0 hi => ?_, h3, fun y => (h4 y).trans (Mm.rem hn hij), hIP, fun z hz => by rw [h5 z hz, hRz z hz]⟩
    · rw [h6 i (Or.inr hi)]
      by_cases he : i = (n : Int) - 1
      · rw [he, rr_u2_same]
      · rw [rr_u2_ne _ _ (fun q => he q.2)]; exact hnn i (by omega) hi2
    · have e := h2 i h0 hi
      unfold prW at e ⊢
      rw [eI _ (hm2 _ (by omega)), eI _ (hm2 i hi)] at e
      exact e
  have hEE : ∀ y, WoO K I y → WoO K (rr_u2 (rr_u2 I P 3 (I P 3 + 1)) P 1 ((n : Int) - 1)) y := fun y hy => by
    unfold WoO; rw [eI y hy]; exact hy
  have hHd : 1 < n → Hd (prW (rr_u2 (rr_u2 I P 3 (I P 3 + 1)) P 1 ((n : Int) - 1))) (fun i => if i = 0 then v (n - 1) else v i) (n - 1) 0 := fun h1 => by
    refine Ho.rem (n := n - 1) (fun i h0 hi => ?_)
    have e := ho i h0 (by omega)
    unfold prW at e ⊢
    rw [eI _ (hv _ (by omega)), eI _ (hv i (by omega))]
    exact e
  refine x_aload_n dJ30_poll_0 rfl ?_
  refine g_getR 0 (r := some A) (ci := 21) (kf := 0) rfl (by decide) (by decide) rfl rfl q1541 rfl (by first | assumption | grind) (hq0) dJ30_poll_1 ?_
  refine x_dup dJ30_poll_4 rfl ?_
  refine x_astore_n dJ30_poll_5 (by decide) ?_
  refine x_iconst dJ30_poll_6 ?_
  refine g_aald (t := 3) (r := some (v 0)) rfl rfl rfl (by first | assumption | grind) rfl (by omega) (hv0) dJ30_poll_7 ?_
  refine x_dup dJ30_poll_8 rfl ?_
  refine x_astore_n dJ30_poll_9 (by decide) ?_
  refine x_ifnull_n dJ30_poll_10 ?_
  refine x_aload_n dJ30_poll_13 rfl ?_
  refine x_dup dJ30_poll_14 rfl ?_
  refine g_getI 3 (ci := 21) (kf := 3) rfl (by decide) (by decide) rfl rfl q1546 rfl (by first | assumption | grind) dJ30_poll_15 ?_
  refine x_iconst dJ30_poll_18 ?_
  refine x_iadd dJ30_poll_19 ?_
  refine g_putI 3 (ci := 21) (kf := 3) rfl (by decide) (by decide) rfl rfl q1546 rfl (by first | assumption | grind) (by first | assumption | omega) (Or.inl rfl) (rr_nar_i _) dJ30_poll_20 ?_
  refine x_aload_n dJ30_poll_23 rfl ?_
  refine x_aload_n dJ30_poll_24 rfl ?_
  refine x_dup dJ30_poll_25 rfl ?_
  refine g_getI 1 (ci := 21) (kf := 1) rfl (by decide) (by decide) rfl rfl q1543 rfl (by first | assumption | grind) dJ30_poll_26 ?_
  rw [show rr_u2 I P 3 (I P 3 + 1) P 1 = (n : Int) by rw [rr_u2_ne _ _ (by omega)]; exact hs]
  refine x_iconst dJ30_poll_29 ?_
  refine x_isub dJ30_poll_30 ?_
  refine x_dup_x1 dJ30_poll_31 rfl rfl ?_
  refine g_putI 1 (ci := 21) (kf := 1) rfl (by decide) (by decide) rfl rfl q1543 rfl (by first | assumption | grind) (by first | assumption | omega) (Or.inl rfl) (rr_nar_i _) dJ30_poll_32 ?_
  refine x_dup dJ30_poll_35 rfl ?_
  refine x_istore_n dJ30_poll_36 (by decide) ?_
  refine g_aald (t := 3) (r := some (v (n - 1))) rfl rfl rfl (by first | assumption | grind) rfl (by omega) (hvl) dJ30_poll_37 ?_
  refine x_astore dJ30_poll_38 (by decide) ?_
  refine x_aload_n dJ30_poll_40 rfl ?_
  refine x_iload_n dJ30_poll_41 rfl ?_
  refine x_null dJ30_poll_42 ?_
  refine g_aastN (t := 3) rfl (by first | assumption | grind) (by first | assumption | omega) rfl (by omega) dJ30_poll_43 ?_
  refine x_iload_n dJ30_poll_44 rfl ?_
  refine x_if_le (t := 79) dJ30_poll_45 (by decide) (by omega) (fun c_45 => ?_) (fun c_45 => ?_)
  · skip
    refine x_aload_n dJ30_poll_79 rfl ?_
    refine gp_aret rfl (Or.inl ⟨_, rfl⟩) dJ30_poll_80 (by omega) (by omega) ?_
    first | exact fin _ _ h1 h2 h3 h4 h5 h6 | exact fin _ (fun i => if i = 0 then v (n - 1) else v i) (fun i hi => by omega) (fun i hi hi2 => by omega) (Ij.rem hn hij) (fun _ => Iff.rfl) (fun _ _ => rfl) (fun _ _ => rfl)
  · skip
    refine x_aload_n dJ30_poll_48 rfl ?_
    refine g_getR 2 (r := some o) (ci := 21) (kf := 2) rfl (by decide) (by decide) rfl rfl q1544 rfl (by first | assumption | grind) (by rw [hRz P hPA]; exact hc) dJ30_poll_49 ?_
    refine x_dup dJ30_poll_52 rfl ?_
    refine x_astore dJ30_poll_53 (by decide) ?_
    refine x_ifnonnull_y (t := 69) dJ30_poll_55 (by decide) ?_
    refine x_iconst dJ30_poll_69 ?_
    refine x_aload dJ30_poll_70 rfl ?_
    refine x_aload_n dJ30_poll_72 rfl ?_
    refine x_iload_n dJ30_poll_73 rfl ?_
    refine x_top (((n - 1 : Nat)) : Int) (by omega) ?_
    refine x_aload dJ30_poll_74 rfl ?_
    refine g_ct5 (jc_siftDown_W (v := fun i => if i = 0 then v (n - 1) else v i) (n := n - 1) hA hA3 (by omega) (by omega) (by simp) (fun i hi => by by_cases h : i = 0; simpa [h] using hEE _ (hv (n - 1) (by omega)); simpa [h] using hEE _ (hv i (by omega))) (hHd (by omega)) (Ij.rem hn hij) (fun i hi h0 => by rw [rr_u2_ne _ _ (by omega)]; simpa [h0] using har i (by omega)) hO) fJ30_siftDownUsingComparator q1662 (by decide) (Nat.le_of_ble_eq_true rfl) (by omega) (by omega) dJ30_poll_76 (fun h2 n2 hp => ?_)
    obtain ⟨rfl, R2, v2, rfl, h1, h2, h3, h4, h5, h6⟩ := hp
    refine x_aload_n dJ30_poll_79 rfl ?_
    refine gp_aret rfl (Or.inl ⟨_, rfl⟩) dJ30_poll_80 (by omega) (by omega) ?_
    first | exact fin _ _ h1 h2 h3 h4 h5 h6 | exact fin _ (fun i => if i = 0 then v (n - 1) else v i) (fun i hi => by omega) (fun i hi hi2 => by omega) (Ij.rem hn hij) (fun _ => Iff.rfl) (fun _ _ => rfl) (fun _ _ => rfl)
end PQ
