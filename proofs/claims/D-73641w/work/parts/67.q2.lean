/-! QUEUES 2: siftUp, siftDown -/
set_option maxRecDepth 100000
section PQ
variable {G : rr_G} {nx : Nat} {K N : Nat → Nat} {I : Nat → Int → Int} {R : Nat → Int → Option Nat} {A o : Nat} {v : Nat → Nat} {n k : Nat}
/-- the array holds v at 0 .. n-1, but for k -/
def ArX (R : Nat → Int → Option Nat) (A : Nat) (v : Nat → Nat) (n k : Nat) : Prop := ∀ i : Nat, i < n → i ≠ k → R A i = some (v i)
/-- behind sifting: the array alone is written, below n -/
def SfP (K N : Nat → Nat) (I : Nat → Int → Int) (R : Nat → Int → Option Nat) (nx A : Nat) (pr : Nat → Int) (v : Nat → Nat) (n : Nat) : rr_H → Nat → Prop := fun h2 n2 => nx = n2 ∧ ∃ (R2 : Nat → Int → Option Nat) (v2 : Nat → Nat), h2 = (K, N, I, R2) ∧ (∀ i : Nat, i < n → R2 A i = some (v2 i)) ∧ Ho pr v2 n ∧ Ij v2 n ∧ (∀ x, Mm v2 n x ↔ Mm v n x) ∧ (∀ x, x ≠ A → R2 x = R x) ∧ ∀ i : Int, (i < 0 ∨ (n : Int) ≤ i) → R2 A i = R A i
theorem jc_siftUp_T {x : Nat} (hA : K A = 67) (hA3 : 300 ≤ A) (hN : n ≤ N A ∧ N A < 1000) (hk : k < n) (hx : v k = x) (hv : ∀ i : Nat, i < n → TwO K I (v i)) (hu : Hu (prT I) v n k) (hij : Ij v n) (har : ArX R A v n k) : gW G yJ30_siftUpComparable cJ30_siftUpComparable 6 (none) 3 0 0 [vI (k : Int), vR (some x), vR (some A)] (K, N, I, R) nx (SfP K N I R nx A (prT I) v n) := by
  have hxo : TwO K I x := by rw [← hx]; exact hv k hk
  have hKx := hxo.1
  refine gW.of (by decide) rfl (Nat.le_of_ble_eq_true rfl) ?_
  refine x_ls (ls2 := [some (vI (k : Int)), some (vR (some x)), some (vR (some A)), none, none, none]) rfl ?_
  refine x_aload_n dJ30_siftUpComparable_0 rfl ?_
  refine g_cast (ci := 9) rfl (by decide) q1652 (Or.inr q627) (by first | assumption | grind) dJ30_siftUpComparable_1 ?_
  refine x_astore_n dJ30_siftUpComparable_4 (by decide) ?_
  refine x_ls (ls2 := [some (vI (k : Int)), some (vR (some x)), some (vR (some A)), some (vR (some x)), none, none]) rfl ?_
  refine rr_ind (W := fun q : Nat × (Nat → Nat) × (Nat → Int → Option Nat) => gw G yJ30_siftUpComparable cJ30_siftUpComparable 6 (none) 3 0 0 (SfP K N I R nx A (prT I) v n) 5 [some (vI (q.1 : Int)), some (vR (some x)), some (vR (some A)), some (vR (some x)), none, none] [] (K, N, I, q.2.2) nx 0 0) (fun q => q.1) (fun q => q.1 < n ∧ q.2.1 q.1 = x ∧ (∀ i : Nat, i < n → TwO K I (q.2.1 i)) ∧ Hu (prT I) q.2.1 n q.1 ∧ Ij q.2.1 n ∧ ArX q.2.2 A q.2.1 n q.1 ∧ (∀ y, Mm q.2.1 n y ↔ Mm v n y) ∧ (∀ y, y ≠ A → q.2.2 y = R y) ∧ ∀ i : Int, (i < 0 ∨ (n : Int) ≤ i) → q.2.2 A i = R A i) ?_ (k, v, R) ⟨hk, hx, hv, hu, hij, har, fun _ => Iff.rfl, fun _ _ => rfl, fun _ _ => rfl⟩
  rintro ⟨j, w, R1⟩ ⟨hj, hwx, hw, hwu, hwi, hwa, hwm, hR1, hR2⟩ ih
  simp only at hj hwx hw hwu hwi hwa hwm hR1 hR2 ih
  dsimp only
  have fin : (j = 0 ∨ prT I (w ((j - 1) / 2)) ≤ prT I (w j)) → SfP K N I R nx A (prT I) v n (K, N, I, rr_u2 R1 A (j : Int) (some x)) nx := by
    intro hd
    refine ⟨rfl, _, w, rfl, fun i hi => ?_, hwu.done hd, hwi, hwm, fun y hy => ?_, fun i hi => ?_⟩
    · by_cases hij : i = j
      · rw [hij, rr_u2_same, hwx]
      · rw [rr_u2_ne _ _ (by omega)]; exact hwa i hi hij
    · funext i; rw [rr_u2_ne _ _ (fun q => hy q.1), hR1 y hy]
    · rw [rr_u2_ne _ _ (by omega)]; exact hR2 i hi
  refine x_iload_n dJ30_siftUpComparable_5 rfl ?_
  refine x_if_le (t := 47) dJ30_siftUpComparable_6 (by decide) (by omega) (fun c_6 => ?_) (fun c_6 => ?_)
  · skip
    have hj0 : j = 0 := by omega
    refine x_aload_n dJ30_siftUpComparable_47 rfl ?_
    refine x_iload_n dJ30_siftUpComparable_48 rfl ?_
    refine x_aload_n dJ30_siftUpComparable_49 rfl ?_
    refine g_aast (t := 3) (ci := 9) rfl rfl (by decide) (Or.inr q2731) (hA) (by first | assumption | omega) rfl (by omega) (hKx) dJ30_siftUpComparable_50 ?_
    refine gw_vret rfl dJ30_siftUpComparable_51 (by omega) (by omega) ?_
    first | exact fin (Or.inl hj0) | exact fin (Or.inr (by omega))
  · skip
    have hj0 : 0 < j := by omega
    have hpj : (j - 1) / 2 < n := by omega
    have hpo := hw ((j - 1) / 2) hpj
    have hKp := hpo.1
    refine x_iload_n dJ30_siftUpComparable_9 rfl ?_
    refine x_iconst dJ30_siftUpComparable_10 ?_
    refine x_isub dJ30_siftUpComparable_11 ?_
    refine x_iconst dJ30_siftUpComparable_12 ?_
    refine x_iushr dJ30_siftUpComparable_13 ?_
    rw [(rr_hf (by omega)).1]
    refine x_istore dJ30_siftUpComparable_14 (by decide) ?_
    refine x_aload_n dJ30_siftUpComparable_16 rfl ?_
    refine x_iload dJ30_siftUpComparable_17 rfl ?_
    refine x_top (((j - 1) / 2 : Nat) : Int) (by omega) ?_
    refine g_aald (t := 3) (r := some (w ((j - 1) / 2))) rfl rfl rfl (by first | assumption | grind) rfl (by omega) (hwa _ hpj (by omega)) dJ30_siftUpComparable_19 ?_
    refine x_astore dJ30_siftUpComparable_20 (by decide) ?_
    refine x_aload_n dJ30_siftUpComparable_22 rfl ?_
    refine x_aload dJ30_siftUpComparable_23 rfl ?_
    refine g_cF1 (ci := 9) (jc_two hxo hpo) (List.mem_of_getElem? (i := 5) rfl) q1654 q628 q630 q184 q632 (by decide +kernel) rfl (by decide) (by first | assumption | grind) (by decide) (Nat.le_of_ble_eq_true rfl) (by omega) (by omega) dJ30_siftUpComparable_25 (fun v h2 n2 hp => ?_)
    obtain ⟨z, rfl, rfl, rfl, hz0, hz1, hz2⟩ := hp
    rw [← hwx] at hz1 hz2
    refine x_if_lt (t := 36) dJ30_siftUpComparable_30 (by decide) (by omega) (fun c_30 => ?_) (fun c_30 => ?_)
    · skip
      refine x_aload_n dJ30_siftUpComparable_36 rfl ?_
      refine x_iload_n dJ30_siftUpComparable_37 rfl ?_
      refine x_aload dJ30_siftUpComparable_38 rfl ?_
      refine g_aast (t := 3) (ci := 9) rfl rfl (by decide) (Or.inr q2731) (hA) (by first | assumption | omega) rfl (by omega) (hKp) dJ30_siftUpComparable_40 ?_
      refine x_iload dJ30_siftUpComparable_41 rfl ?_
      refine x_istore_n dJ30_siftUpComparable_43 (by decide) ?_
      refine x_goto (t := 5) dJ30_siftUpComparable_44 (by decide) ?_
      refine x_loc (ls2 := [some (vI ((((j - 1) / 2 : Nat) : Int))), some (vR (some x)), some (vR (some A)), some (vR (some x)), none, none]) (by rw [show ((((j - 1) / 2 : Nat) : Int)) = ((j : Int) - 1) / 2 by omega]; exact (by repeat first | exact trivial | refine ⟨Or.inr rfl, ?_⟩ | refine ⟨Or.inl rfl, ?_⟩)) ?_
      refine ih ((j - 1) / 2, swp2 w j ((j - 1) / 2), rr_u2 R1 A (j : Int) (some (w ((j - 1) / 2)))) ⟨hpj, ?_, fun i hi => ?_, hwu.up hj0 hj (by omega), hwi.swp hj hpj, fun i hi hne => ?_, fun y => (Mm.swp hj hpj).trans (hwm y), fun y hy => ?_, fun i hi => ?_⟩ (by simp only; omega)
      · show swp2 w j ((j - 1) / 2) ((j - 1) / 2) = x; unfold swp2
        rw [if_neg (by omega), if_pos rfl]; exact hwx
      · simp only [swp2]
        split
        · exact hpo
        · split
          · exact hw j hj
          · exact hw i hi
      · simp only [swp2]
        by_cases h1 : i = j
        · rw [h1, rr_u2_same, if_pos rfl]
        · rw [rr_u2_ne _ _ (by omega), if_neg h1, if_neg hne]; exact hwa i hi h1
      · funext i; show rr_u2 R1 A _ _ y i = R y i; rw [rr_u2_ne _ _ (fun q => hy q.1)]; exact congrFun (hR1 y hy) i
      · simp only; rw [rr_u2_ne _ _ (by omega)]; exact hR2 i hi
    · skip
      refine x_goto (t := 47) dJ30_siftUpComparable_33 (by decide) ?_
      refine x_aload_n dJ30_siftUpComparable_47 rfl ?_
      refine x_iload_n dJ30_siftUpComparable_48 rfl ?_
      refine x_aload_n dJ30_siftUpComparable_49 rfl ?_
      refine g_aast (t := 3) (ci := 9) rfl rfl (by decide) (Or.inr q2731) (hA) (by first | assumption | omega) rfl (by omega) (hKx) dJ30_siftUpComparable_50 ?_
      refine gw_vret rfl dJ30_siftUpComparable_51 (by omega) (by omega) ?_
      first | exact fin (Or.inl hj0) | exact fin (Or.inr (by omega))
theorem jc_siftUp_W {x : Nat} (hA : K A = 67) (hA3 : 300 ≤ A) (hN : n ≤ N A ∧ N A < 1000) (hk : k < n) (hx : v k = x) (hv : ∀ i : Nat, i < n → WoO K I (v i)) (hu : Hu (prW I) v n k) (hij : Ij v n) (har : ArX R A v n k) (ho : K o = 13) : gW G yJ30_siftUpUsingComparator cJ30_siftUpUsingComparator 6 (none) 3 0 0 [vI (k : Int), vR (some x), vR (some A), vR (some o)] (K, N, I, R) nx (SfP K N I R nx A (prW I) v n) := by
  have hxo : WoO K I x := by rw [← hx]; exact hv k hk
  have hKx := hxo.1
  refine gW.of (by decide) rfl (Nat.le_of_ble_eq_true rfl) ?_
  refine x_ls (ls2 := [some (vI (k : Int)), some (vR (some x)), some (vR (some A)), some (vR (some o)), none, none]) rfl ?_
  refine x_ls (ls2 := [some (vI (k : Int)), some (vR (some x)), some (vR (some A)), some (vR (some o)), none, none]) rfl ?_
  refine rr_ind (W := fun q : Nat × (Nat → Nat) × (Nat → Int → Option Nat) => gw G yJ30_siftUpUsingComparator cJ30_siftUpUsingComparator 6 (none) 3 0 0 (SfP K N I R nx A (prW I) v n) 0 [some (vI (q.1 : Int)), some (vR (some x)), some (vR (some A)), some (vR (some o)), none, none] [] (K, N, I, q.2.2) nx 0 0) (fun q => q.1) (fun q => q.1 < n ∧ q.2.1 q.1 = x ∧ (∀ i : Nat, i < n → WoO K I (q.2.1 i)) ∧ Hu (prW I) q.2.1 n q.1 ∧ Ij q.2.1 n ∧ ArX q.2.2 A q.2.1 n q.1 ∧ (∀ y, Mm q.2.1 n y ↔ Mm v n y) ∧ (∀ y, y ≠ A → q.2.2 y = R y) ∧ ∀ i : Int, (i < 0 ∨ (n : Int) ≤ i) → q.2.2 A i = R A i) ?_ (k, v, R) ⟨hk, hx, hv, hu, hij, har, fun _ => Iff.rfl, fun _ _ => rfl, fun _ _ => rfl⟩
  rintro ⟨j, w, R1⟩ ⟨hj, hwx, hw, hwu, hwi, hwa, hwm, hR1, hR2⟩ ih
  simp only at hj hwx hw hwu hwi hwa hwm hR1 hR2 ih
  dsimp only
  have fin : (j = 0 ∨ prW I (w ((j - 1) / 2)) ≤ prW I (w j)) → SfP K N I R nx A (prW I) v n (K, N, I, rr_u2 R1 A (j : Int) (some x)) nx := by
    intro hd
    refine ⟨rfl, _, w, rfl, fun i hi => ?_, hwu.done hd, hwi, hwm, fun y hy => ?_, fun i hi => ?_⟩
    · by_cases hij : i = j
      · rw [hij, rr_u2_same, hwx]
      · rw [rr_u2_ne _ _ (by omega)]; exact hwa i hi hij
    · funext i; rw [rr_u2_ne _ _ (fun q => hy q.1), hR1 y hy]
    · rw [rr_u2_ne _ _ (by omega)]; exact hR2 i hi
  refine x_iload_n dJ30_siftUpUsingComparator_0 rfl ?_
  refine x_if_le (t := 43) dJ30_siftUpUsingComparator_1 (by decide) (by omega) (fun c_1 => ?_) (fun c_1 => ?_)
  · skip
    have hj0 : j = 0 := by omega
    refine x_aload_n dJ30_siftUpUsingComparator_43 rfl ?_
    refine x_iload_n dJ30_siftUpUsingComparator_44 rfl ?_
    refine x_aload_n dJ30_siftUpUsingComparator_45 rfl ?_
    refine g_aast (t := 3) (ci := 6) rfl rfl (by decide) (Or.inr q2733) (hA) (by first | assumption | omega) rfl (by omega) (hKx) dJ30_siftUpUsingComparator_46 ?_
    refine gw_vret rfl dJ30_siftUpUsingComparator_47 (by omega) (by omega) ?_
    first | exact fin (Or.inl hj0) | exact fin (Or.inr (by omega))
  · skip
    have hj0 : 0 < j := by omega
    have hpj : (j - 1) / 2 < n := by omega
    have hpo := hw ((j - 1) / 2) hpj
    have hKp := hpo.1
    refine x_iload_n dJ30_siftUpUsingComparator_4 rfl ?_
    refine x_iconst dJ30_siftUpUsingComparator_5 ?_
    refine x_isub dJ30_siftUpUsingComparator_6 ?_
    refine x_iconst dJ30_siftUpUsingComparator_7 ?_
    refine x_iushr dJ30_siftUpUsingComparator_8 ?_
    rw [(rr_hf (by omega)).1]
    refine x_istore dJ30_siftUpUsingComparator_9 (by decide) ?_
    refine x_aload_n dJ30_siftUpUsingComparator_11 rfl ?_
    refine x_iload dJ30_siftUpUsingComparator_12 rfl ?_
    refine x_top (((j - 1) / 2 : Nat) : Int) (by omega) ?_
    refine g_aald (t := 3) (r := some (w ((j - 1) / 2))) rfl rfl rfl (by first | assumption | grind) rfl (by omega) (hwa _ hpj (by omega)) dJ30_siftUpUsingComparator_14 ?_
    refine x_astore dJ30_siftUpUsingComparator_15 (by decide) ?_
    refine x_aload_n dJ30_siftUpUsingComparator_17 rfl ?_
    refine x_aload_n dJ30_siftUpUsingComparator_18 rfl ?_
    refine x_aload dJ30_siftUpUsingComparator_19 rfl ?_
    refine g_cF2 (ci := 13) (jc_word ho hxo hpo) (List.mem_of_getElem? (i := 6) rfl) q1648 q609 q611 q188 q613 (by decide +kernel) rfl (by decide) (by first | assumption | grind) (by decide) (Nat.le_of_ble_eq_true rfl) (by omega) (by omega) dJ30_siftUpUsingComparator_21 (fun v h2 n2 hp => ?_)
    obtain ⟨z, rfl, rfl, rfl, hz0, hz1, hz2⟩ := hp
    rw [← hwx] at hz1 hz2
    refine x_if_lt (t := 32) dJ30_siftUpUsingComparator_26 (by decide) (by omega) (fun c_26 => ?_) (fun c_26 => ?_)
    · skip
      refine x_aload_n dJ30_siftUpUsingComparator_32 rfl ?_
      refine x_iload_n dJ30_siftUpUsingComparator_33 rfl ?_
      refine x_aload dJ30_siftUpUsingComparator_34 rfl ?_
      refine g_aast (t := 3) (ci := 6) rfl rfl (by decide) (Or.inr q2733) (hA) (by first | assumption | omega) rfl (by omega) (hKp) dJ30_siftUpUsingComparator_36 ?_
      refine x_iload dJ30_siftUpUsingComparator_37 rfl ?_
      refine x_istore_n dJ30_siftUpUsingComparator_39 (by decide) ?_
      refine x_goto (t := 0) dJ30_siftUpUsingComparator_40 (by decide) ?_
      refine x_loc (ls2 := [some (vI ((((j - 1) / 2 : Nat) : Int))), some (vR (some x)), some (vR (some A)), some (vR (some o)), none, none]) (by rw [show ((((j - 1) / 2 : Nat) : Int)) = ((j : Int) - 1) / 2 by omega]; exact (by repeat first | exact trivial | refine ⟨Or.inr rfl, ?_⟩ | refine ⟨Or.inl rfl, ?_⟩)) ?_
      refine ih ((j - 1) / 2, swp2 w j ((j - 1) / 2), rr_u2 R1 A (j : Int) (some (w ((j - 1) / 2)))) ⟨hpj, ?_, fun i hi => ?_, hwu.up hj0 hj (by omega), hwi.swp hj hpj, fun i hi hne => ?_, fun y => (Mm.swp hj hpj).trans (hwm y), fun y hy => ?_, fun i hi => ?_⟩ (by simp only; omega)
      · show swp2 w j ((j - 1) / 2) ((j - 1) / 2) = x; unfold swp2
        rw [if_neg (by omega), if_pos rfl]; exact hwx
      · simp only [swp2]
        split
        · exact hpo
        · split
          · exact hw j hj
          · exact hw i hi
      · simp only [swp2]
        by_cases h1 : i = j
        · rw [h1, rr_u2_same, if_pos rfl]
        · rw [rr_u2_ne _ _ (by omega), if_neg h1, if_neg hne]; exact hwa i hi h1
      · funext i; show rr_u2 R1 A _ _ y i = R y i; rw [rr_u2_ne _ _ (fun q => hy q.1)]; exact congrFun (hR1 y hy) i
      · simp only; rw [rr_u2_ne _ _ (by omega)]; exact hR2 i hi
    · skip
      refine x_goto (t := 43) dJ30_siftUpUsingComparator_29 (by decide) ?_
      refine x_aload_n dJ30_siftUpUsingComparator_43 rfl ?_
      refine x_iload_n dJ30_siftUpUsingComparator_44 rfl ?_
      refine x_aload_n dJ30_siftUpUsingComparator_45 rfl ?_
      refine g_aast (t := 3) (ci := 6) rfl rfl (by decide) (Or.inr q2733) (hA) (by first | assumption | omega) rfl (by omega) (hKx) dJ30_siftUpUsingComparator_46 ?_
      refine gw_vret rfl dJ30_siftUpUsingComparator_47 (by omega) (by omega) ?_
      first | exact fin (Or.inl hj0) | exact fin (Or.inr (by omega))
end PQ
