/-! QUEUES 3: siftDown -/
set_option maxRecDepth 100000
section PQ
variable {G : rr_G} {nx : Nat} {K N : Nat → Nat} {I : Nat → Int → Int} {R : Nat → Int → Option Nat} {A o : Nat} {v : Nat → Nat} {n k : Nat}
theorem jc_siftDown_T {x : Nat} (hA : K A = 67) (hA3 : 300 ≤ A) (hN : n ≤ N A ∧ N A < 1000) (h0 : 0 < n) (hx : v 0 = x) (hv : ∀ i : Nat, i < n → TwO K I (v i)) (hu : Hd (prT I) v n 0) (hij : Ij v n) (har : ArX R A v n 0) : gW G yJ30_siftDownComparable cJ30_siftDownComparable 9 (none) 3 0 0 [vI 0, vR (some x), vR (some A), vI (n : Int)] (K, N, I, R) nx (SfP K N I R nx A (prT I) v n) := by
  have hxo : TwO K I x := by rw [← hx]; exact hv 0 h0
  have hKx := hxo.1
  refine gW.of (by decide) rfl (Nat.le_of_ble_eq_true rfl) ?_
  refine x_ls (ls2 := [some (vI 0), some (vR (some x)), some (vR (some A)), some (vI (n : Int)), none, none, none, none, none]) rfl ?_
  refine x_aload_n dJ30_siftDownComparable_0 rfl ?_
  refine g_cast (ci := 9) rfl (by decide) q1652 (Or.inr q627) (by first | assumption | grind) dJ30_siftDownComparable_1 ?_
  refine x_astore dJ30_siftDownComparable_4 (by decide) ?_
  refine x_iload_n dJ30_siftDownComparable_6 rfl ?_
  refine x_iconst dJ30_siftDownComparable_7 ?_
  refine x_iushr dJ30_siftDownComparable_8 ?_
  rw [(rr_hf (by omega)).1]
  refine x_istore dJ30_siftDownComparable_9 (by decide) ?_
  refine x_ls (ls2 := [some (vI ((0 : Nat) : Int)), some (vR (some x)), some (vR (some A)), some (vI (n : Int)), some (vR (some x)), some (vI ((n : Int) / 2)), none, none, none]) rfl ?_
  refine rr_ind (W := fun q : Nat × (Nat → Nat) × (Nat → Int → Option Nat) => gw G yJ30_siftDownComparable cJ30_siftDownComparable 9 (none) 3 0 0 (SfP K N I R nx A (prT I) v n) 11 [some (vI (q.1 : Int)), some (vR (some x)), some (vR (some A)), some (vI (n : Int)), some (vR (some x)), some (vI ((n : Int) / 2)), none, none, none] [] (K, N, I, q.2.2) nx 0 0) (fun q => n - q.1) (fun q => q.1 < n ∧ q.2.1 q.1 = x ∧ (∀ i : Nat, i < n → TwO K I (q.2.1 i)) ∧ Hd (prT I) q.2.1 n q.1 ∧ Ij q.2.1 n ∧ ArX q.2.2 A q.2.1 n q.1 ∧ (∀ y, Mm q.2.1 n y ↔ Mm v n y) ∧ (∀ y, y ≠ A → q.2.2 y = R y) ∧ ∀ i : Int, (i < 0 ∨ (n : Int) ≤ i) → q.2.2 A i = R A i) ?_ (0, v, R) ⟨h0, hx, hv, hu, hij, har, fun _ => Iff.rfl, fun _ _ => rfl, fun _ _ => rfl⟩
  rintro ⟨j, w, R1⟩ ⟨hj, hwx, hw, hwu, hwi, hwa, hwm, hR1, hR2⟩ ih
  simp only at hj hwx hw hwu hwi hwa hwm hR1 hR2 ih
  dsimp only
  have fin : (∀ i, 0 < i → i < n → (i - 1) / 2 = j → prT I (w j) ≤ prT I (w i)) → SfP K N I R nx A (prT I) v n (K, N, I, rr_u2 R1 A (j : Int) (some x)) nx := by
    intro hd
    refine ⟨rfl, _, w, rfl, fun i hi => ?_, hwu.done hd, hwi, hwm, fun y hy => ?_, fun i hi => ?_⟩
    · by_cases hij : i = j
      · rw [hij, rr_u2_same, hwx]
      · rw [rr_u2_ne _ _ (by omega)]; exact hwa i hi hij
    · funext i; rw [rr_u2_ne _ _ (fun q => hy q.1), hR1 y hy]
    · rw [rr_u2_ne _ _ (by omega)]; exact hR2 i hi
  have step : ∀ (c : Nat) (s8 : Option rr_V), Lc (prT I) w n j c → gw G yJ30_siftDownComparable cJ30_siftDownComparable 9 (none) 3 0 0 (SfP K N I R nx A (prT I) v n) 68 [some (vI (j : Int)), some (vR (some x)), some (vR (some A)), some (vI (n : Int)), some (vR (some x)), some (vI ((n : Int) / 2)), some (vI (c : Int)), some (vR (some (w c))), s8] [] (K, N, I, R1) nx 0 0 := by
    intro c s8 hc
    have hcn := hc.2.1
    have hco := hw c hcn
    have hKc := hco.1
    have hcj : j < c := by have := hc.1; omega
    refine x_loc (ls2 := [some (vI (j : Int)), some (vR (some x)), some (vR (some A)), some (vI (n : Int)), some (vR (some x)), some (vI ((n : Int) / 2)), some (vI (c : Int)), some (vR (some (w c))), none]) (by repeat first | exact trivial | refine ⟨Or.inr rfl, ?_⟩ | refine ⟨Or.inl rfl, ?_⟩) ?_
    refine x_aload dJ30_siftDownComparable_68 rfl ?_
    refine x_aload dJ30_siftDownComparable_70 rfl ?_
    refine g_cF1 (ci := 9) (jc_two hxo hco) (List.mem_of_getElem? (i := 5) rfl) q1654 q628 q630 q184 q632 (by decide +kernel) rfl (by decide) (by first | assumption | grind) (by decide) (Nat.le_of_ble_eq_true rfl) (by omega) (by omega) dJ30_siftDownComparable_72 (fun v h2 n2 hp => ?_)
    obtain ⟨z, rfl, rfl, rfl, hz0, hz1, hz2⟩ := hp
    rw [← hwx] at hz1 hz2
    refine x_if_gt (t := 83) dJ30_siftDownComparable_77 (by decide) (by omega) (fun c_77 => ?_) (fun c_77 => ?_)
    · skip
      refine x_aload_n dJ30_siftDownComparable_83 rfl ?_
      refine x_iload_n dJ30_siftDownComparable_84 rfl ?_
      refine x_aload dJ30_siftDownComparable_85 rfl ?_
      refine g_aast (t := 3) (ci := 9) rfl rfl (by decide) (Or.inr q2731) (hA) (by first | assumption | omega) rfl (by omega) (hKc) dJ30_siftDownComparable_87 ?_
      refine x_iload dJ30_siftDownComparable_88 rfl ?_
      refine x_istore_n dJ30_siftDownComparable_90 (by decide) ?_
      refine x_goto (t := 11) dJ30_siftDownComparable_91 (by decide) ?_
      refine x_loc (ls2 := [some (vI (c : Int)), some (vR (some x)), some (vR (some A)), some (vI (n : Int)), some (vR (some x)), some (vI ((n : Int) / 2)), none, none, none]) (by repeat first | exact trivial | refine ⟨Or.inr rfl, ?_⟩ | refine ⟨Or.inl rfl, ?_⟩) ?_
      refine ih (c, swp2 w j c, rr_u2 R1 A (j : Int) (some (w c))) ⟨hcn, ?_, fun i hi => ?_, hwu.down hc (by omega), hwi.swp hj hcn, fun i hi hne => ?_, fun y => (Mm.swp hj hcn).trans (hwm y), fun y hy => ?_, fun i hi => ?_⟩ (by simp only; omega)
      · show swp2 w j c c = x; unfold swp2
        rw [if_neg (by omega), if_pos rfl]; exact hwx
      · simp only [swp2]
        split
        · exact hco
        · split
          · exact hw j hj
          · exact hw i hi
      · simp only [swp2]
        by_cases h1 : i = j
        · rw [h1, rr_u2_same, if_pos rfl]
        · rw [rr_u2_ne _ _ (by omega), if_neg h1, if_neg hne]; exact hwa i hi h1
      · funext i; show rr_u2 R1 A _ _ y i = R y i; rw [rr_u2_ne _ _ (fun q => hy q.1)]; exact congrFun (hR1 y hy) i
      · simp only; rw [rr_u2_ne _ _ (by omega)]; exact hR2 i hi
    · skip
      refine x_goto (t := 94) dJ30_siftDownComparable_80 (by decide) ?_
      refine x_aload_n dJ30_siftDownComparable_94 rfl ?_
      refine x_iload_n dJ30_siftDownComparable_95 rfl ?_
      refine x_aload dJ30_siftDownComparable_96 rfl ?_
      refine g_aast (t := 3) (ci := 9) rfl rfl (by decide) (Or.inr q2731) (hA) (by first | assumption | omega) rfl (by omega) (hKx) dJ30_siftDownComparable_98 ?_
      refine gw_vret rfl dJ30_siftDownComparable_99 (by omega) (by omega) ?_
      refine fin (fun i g1 g2 g3 => ?_)
      have := hc.2.2 i g1 g2 g3
      omega
  refine x_iload_n dJ30_siftDownComparable_11 rfl ?_
  refine x_iload dJ30_siftDownComparable_12 rfl ?_
  refine x_icmp_ge (t := 94) dJ30_siftDownComparable_14 (by decide) (by omega) (fun c_14 => ?_) (fun c_14 => ?_)
  · skip
    refine x_aload_n dJ30_siftDownComparable_94 rfl ?_
    refine x_iload_n dJ30_siftDownComparable_95 rfl ?_
    refine x_aload dJ30_siftDownComparable_96 rfl ?_
    refine g_aast (t := 3) (ci := 9) rfl rfl (by decide) (Or.inr q2731) (hA) (by first | assumption | omega) rfl (by omega) (hKx) dJ30_siftDownComparable_98 ?_
    refine gw_vret rfl dJ30_siftDownComparable_99 (by omega) (by omega) ?_
    refine fin (fun i g1 g2 g3 => ?_)
    omega
  · skip
    have hc1 : 2 * j + 1 < n := by omega
    have hco := hw (2 * j + 1) hc1
    have hKc := hco.1
    refine x_iload_n dJ30_siftDownComparable_17 rfl ?_
    refine x_iconst dJ30_siftDownComparable_18 ?_
    refine x_ishl dJ30_siftDownComparable_19 ?_
    rw [(rr_hf (by omega)).2.2]
    refine x_iconst dJ30_siftDownComparable_20 ?_
    refine x_iadd dJ30_siftDownComparable_21 ?_
    refine x_istore dJ30_siftDownComparable_22 (by decide) ?_
    refine x_aload_n dJ30_siftDownComparable_24 rfl ?_
    refine x_iload dJ30_siftDownComparable_25 rfl ?_
    refine x_top ((2 * j + 1 : Nat) : Int) (by omega) ?_
    refine g_aald (t := 3) (r := some (w (2 * j + 1))) rfl rfl rfl (by first | assumption | grind) rfl (by omega) (hwa _ hc1 (by omega)) dJ30_siftDownComparable_27 ?_
    refine x_astore dJ30_siftDownComparable_28 (by decide) ?_
    refine x_iload dJ30_siftDownComparable_30 rfl ?_
    refine x_iconst dJ30_siftDownComparable_32 ?_
    refine x_iadd dJ30_siftDownComparable_33 ?_
    refine x_istore dJ30_siftDownComparable_34 (by decide) ?_
    refine x_iload dJ30_siftDownComparable_36 rfl ?_
    refine x_iload_n dJ30_siftDownComparable_38 rfl ?_
    refine x_icmp_ge (t := 68) dJ30_siftDownComparable_39 (by decide) (by omega) (fun c_39 => ?_) (fun c_39 => ?_)
    · skip
      refine x_ls (ls2 := [some (vI (j : Int)), some (vR (some x)), some (vR (some A)), some (vI (n : Int)), some (vR (some x)), some (vI ((n : Int) / 2)), some (vI ((2 * j + 1 : Nat) : Int)), some (vR (some (w (2 * j + 1)))), some (vI (2 * (j : Int) + 1 + 1))]) (by simp) ?_
      exact step (2 * j + 1) _ ⟨Or.inl rfl, hc1, fun i g1 g2 g3 => by rw [show i = 2 * j + 1 by omega]; exact Int.le_refl _⟩
    · skip
      have hc2 : 2 * j + 2 < n := by omega
      have hdo := hw (2 * j + 2) hc2
      have hKd := hdo.1
      refine x_aload dJ30_siftDownComparable_42 rfl ?_
      refine g_cast (ci := 9) rfl (by decide) q1652 (Or.inr q627) (by first | assumption | grind) dJ30_siftDownComparable_44 ?_
      refine x_aload_n dJ30_siftDownComparable_47 rfl ?_
      refine x_iload dJ30_siftDownComparable_48 rfl ?_
      refine x_top ((2 * j + 2 : Nat) : Int) (by omega) ?_
      refine g_aald (t := 3) (r := some (w (2 * j + 2))) rfl rfl rfl (by first | assumption | grind) rfl (by omega) (hwa _ hc2 (by omega)) dJ30_siftDownComparable_50 ?_
      refine g_cF1 (ci := 9) (jc_two hco hdo) (List.mem_of_getElem? (i := 5) rfl) q1654 q628 q630 q184 q632 (by decide +kernel) rfl (by decide) (by first | assumption | grind) (by decide) (Nat.le_of_ble_eq_true rfl) (by omega) (by omega) dJ30_siftDownComparable_51 (fun v h2 n2 hp => ?_)
      obtain ⟨z, rfl, rfl, rfl, hz0, hz1, hz2⟩ := hp
      refine x_if_le (t := 68) dJ30_siftDownComparable_56 (by decide) (by omega) (fun c_56 => ?_) (fun c_56 => ?_)
      · skip
        refine x_ls (ls2 := [some (vI (j : Int)), some (vR (some x)), some (vR (some A)), some (vI (n : Int)), some (vR (some x)), some (vI ((n : Int) / 2)), some (vI ((2 * j + 1 : Nat) : Int)), some (vR (some (w (2 * j + 1)))), some (vI (2 * (j : Int) + 1 + 1))]) (by simp) ?_
        refine step (2 * j + 1) _ ⟨Or.inl rfl, hc1, fun i g1 g2 g3 => ?_⟩
        rcases (show i = 2 * j + 1 ∨ i = 2 * j + 2 by omega) with q | q <;> rw [q] <;> omega
      · skip
        refine x_aload_n dJ30_siftDownComparable_59 rfl ?_
        refine x_iload dJ30_siftDownComparable_60 rfl ?_
        refine x_dup dJ30_siftDownComparable_62 rfl ?_
        refine x_istore dJ30_siftDownComparable_63 (by decide) ?_
        refine x_top ((2 * j + 2 : Nat) : Int) (by omega) ?_
        refine g_aald (t := 3) (r := some (w (2 * j + 2))) rfl rfl rfl (by first | assumption | grind) rfl (by omega) (hwa _ hc2 (by omega)) dJ30_siftDownComparable_65 ?_
        refine x_astore dJ30_siftDownComparable_66 (by decide) ?_
        refine x_ls (ls2 := [some (vI (j : Int)), some (vR (some x)), some (vR (some A)), some (vI (n : Int)), some (vR (some x)), some (vI ((n : Int) / 2)), some (vI ((2 * j + 2 : Nat) : Int)), some (vR (some (w (2 * j + 2)))), some (vI (2 * (j : Int) + 1 + 1))]) (by simp; constructor <;> (try omega) <;> rfl) ?_
        refine step (2 * j + 2) _ ⟨Or.inr rfl, hc2, fun i g1 g2 g3 => ?_⟩
        rcases (show i = 2 * j + 1 ∨ i = 2 * j + 2 by omega) with q | q <;> rw [q] <;> omega
theorem jc_siftDown_W {x : Nat} (hA : K A = 67) (hA3 : 300 ≤ A) (hN : n ≤ N A ∧ N A < 1000) (h0 : 0 < n) (hx : v 0 = x) (hv : ∀ i : Nat, i < n → WoO K I (v i)) (hu : Hd (prW I) v n 0) (hij : Ij v n) (har : ArX R A v n 0) (ho : K o = 13) : gW G yJ30_siftDownUsingComparator cJ30_siftDownUsingComparator 9 (none) 3 0 0 [vI 0, vR (some x), vR (some A), vI (n : Int), vR (some o)] (K, N, I, R) nx (SfP K N I R nx A (prW I) v n) := by
  have hxo : WoO K I x := by rw [← hx]; exact hv 0 h0
  have hKx := hxo.1
  refine gW.of (by decide) rfl (Nat.le_of_ble_eq_true rfl) ?_
  refine x_ls (ls2 := [some (vI 0), some (vR (some x)), some (vR (some A)), some (vI (n : Int)), some (vR (some o)), none, none, none, none]) rfl ?_
  refine x_iload_n dJ30_siftDownUsingComparator_0 rfl ?_
  refine x_iconst dJ30_siftDownUsingComparator_1 ?_
  refine x_iushr dJ30_siftDownUsingComparator_2 ?_
  rw [(rr_hf (by omega)).1]
  refine x_istore dJ30_siftDownUsingComparator_3 (by decide) ?_
  refine x_ls (ls2 := [some (vI ((0 : Nat) : Int)), some (vR (some x)), some (vR (some A)), some (vI (n : Int)), some (vR (some o)), some (vI ((n : Int) / 2)), none, none, none]) rfl ?_
  refine rr_ind (W := fun q : Nat × (Nat → Nat) × (Nat → Int → Option Nat) => gw G yJ30_siftDownUsingComparator cJ30_siftDownUsingComparator 9 (none) 3 0 0 (SfP K N I R nx A (prW I) v n) 5 [some (vI (q.1 : Int)), some (vR (some x)), some (vR (some A)), some (vI (n : Int)), some (vR (some o)), some (vI ((n : Int) / 2)), none, none, none] [] (K, N, I, q.2.2) nx 0 0) (fun q => n - q.1) (fun q => q.1 < n ∧ q.2.1 q.1 = x ∧ (∀ i : Nat, i < n → WoO K I (q.2.1 i)) ∧ Hd (prW I) q.2.1 n q.1 ∧ Ij q.2.1 n ∧ ArX q.2.2 A q.2.1 n q.1 ∧ (∀ y, Mm q.2.1 n y ↔ Mm v n y) ∧ (∀ y, y ≠ A → q.2.2 y = R y) ∧ ∀ i : Int, (i < 0 ∨ (n : Int) ≤ i) → q.2.2 A i = R A i) ?_ (0, v, R) ⟨h0, hx, hv, hu, hij, har, fun _ => Iff.rfl, fun _ _ => rfl, fun _ _ => rfl⟩
  rintro ⟨j, w, R1⟩ ⟨hj, hwx, hw, hwu, hwi, hwa, hwm, hR1, hR2⟩ ih
  simp only at hj hwx hw hwu hwi hwa hwm hR1 hR2 ih
  dsimp only
  have fin : (∀ i, 0 < i → i < n → (i - 1) / 2 = j → prW I (w j) ≤ prW I (w i)) → SfP K N I R nx A (prW I) v n (K, N, I, rr_u2 R1 A (j : Int) (some x)) nx := by
    intro hd
    refine ⟨rfl, _, w, rfl, fun i hi => ?_, hwu.done hd, hwi, hwm, fun y hy => ?_, fun i hi => ?_⟩
    · by_cases hij : i = j
      · rw [hij, rr_u2_same, hwx]
      · rw [rr_u2_ne _ _ (by omega)]; exact hwa i hi hij
    · funext i; rw [rr_u2_ne _ _ (fun q => hy q.1), hR1 y hy]
    · rw [rr_u2_ne _ _ (by omega)]; exact hR2 i hi
  have step : ∀ (c : Nat) (s8 : Option rr_V), Lc (prW I) w n j c → gw G yJ30_siftDownUsingComparator cJ30_siftDownUsingComparator 9 (none) 3 0 0 (SfP K N I R nx A (prW I) v n) 61 [some (vI (j : Int)), some (vR (some x)), some (vR (some A)), some (vI (n : Int)), some (vR (some o)), some (vI ((n : Int) / 2)), some (vI (c : Int)), some (vR (some (w c))), s8] [] (K, N, I, R1) nx 0 0 := by
    intro c s8 hc
    have hcn := hc.2.1
    have hco := hw c hcn
    have hKc := hco.1
    have hcj : j < c := by have := hc.1; omega
    refine x_loc (ls2 := [some (vI (j : Int)), some (vR (some x)), some (vR (some A)), some (vI (n : Int)), some (vR (some o)), some (vI ((n : Int) / 2)), some (vI (c : Int)), some (vR (some (w c))), none]) (by repeat first | exact trivial | refine ⟨Or.inr rfl, ?_⟩ | refine ⟨Or.inl rfl, ?_⟩) ?_
    refine x_aload dJ30_siftDownUsingComparator_61 rfl ?_
    refine x_aload_n dJ30_siftDownUsingComparator_63 rfl ?_
    refine x_aload dJ30_siftDownUsingComparator_64 rfl ?_
    refine g_cF2 (ci := 13) (jc_word ho hxo hco) (List.mem_of_getElem? (i := 6) rfl) q1648 q609 q611 q188 q613 (by decide +kernel) rfl (by decide) (by first | assumption | grind) (by decide) (Nat.le_of_ble_eq_true rfl) (by omega) (by omega) dJ30_siftDownUsingComparator_66 (fun v h2 n2 hp => ?_)
    obtain ⟨z, rfl, rfl, rfl, hz0, hz1, hz2⟩ := hp
    rw [← hwx] at hz1 hz2
    refine x_if_gt (t := 77) dJ30_siftDownUsingComparator_71 (by decide) (by omega) (fun c_71 => ?_) (fun c_71 => ?_)
    · skip
      refine x_aload_n dJ30_siftDownUsingComparator_77 rfl ?_
      refine x_iload_n dJ30_siftDownUsingComparator_78 rfl ?_
      refine x_aload dJ30_siftDownUsingComparator_79 rfl ?_
      refine g_aast (t := 3) (ci := 6) rfl rfl (by decide) (Or.inr q2733) (hA) (by first | assumption | omega) rfl (by omega) (hKc) dJ30_siftDownUsingComparator_81 ?_
      refine x_iload dJ30_siftDownUsingComparator_82 rfl ?_
      refine x_istore_n dJ30_siftDownUsingComparator_84 (by decide) ?_
      refine x_goto (t := 5) dJ30_siftDownUsingComparator_85 (by decide) ?_
      refine x_loc (ls2 := [some (vI (c : Int)), some (vR (some x)), some (vR (some A)), some (vI (n : Int)), some (vR (some o)), some (vI ((n : Int) / 2)), none, none, none]) (by repeat first | exact trivial | refine ⟨Or.inr rfl, ?_⟩ | refine ⟨Or.inl rfl, ?_⟩) ?_
      refine ih (c, swp2 w j c, rr_u2 R1 A (j : Int) (some (w c))) ⟨hcn, ?_, fun i hi => ?_, hwu.down hc (by omega), hwi.swp hj hcn, fun i hi hne => ?_, fun y => (Mm.swp hj hcn).trans (hwm y), fun y hy => ?_, fun i hi => ?_⟩ (by simp only; omega)
      · show swp2 w j c c = x; unfold swp2
        rw [if_neg (by omega), if_pos rfl]; exact hwx
      · simp only [swp2]
        split
        · exact hco
        · split
          · exact hw j hj
          · exact hw i hi
      · simp only [swp2]
        by_cases h1 : i = j
        · rw [h1, rr_u2_same, if_pos rfl]
        · rw [rr_u2_ne _ _ (by omega), if_neg h1, if_neg hne]; exact hwa i hi h1
      · funext i; show rr_u2 R1 A _ _ y i = R y i; rw [rr_u2_ne _ _ (fun q => hy q.1)]; exact congrFun (hR1 y hy) i
      · simp only; rw [rr_u2_ne _ _ (by omega)]; exact hR2 i hi
    · skip
      refine x_goto (t := 88) dJ30_siftDownUsingComparator_74 (by decide) ?_
      refine x_aload_n dJ30_siftDownUsingComparator_88 rfl ?_
      refine x_iload_n dJ30_siftDownUsingComparator_89 rfl ?_
      refine x_aload_n dJ30_siftDownUsingComparator_90 rfl ?_
      refine g_aast (t := 3) (ci := 6) rfl rfl (by decide) (Or.inr q2733) (hA) (by first | assumption | omega) rfl (by omega) (hKx) dJ30_siftDownUsingComparator_91 ?_
      refine gw_vret rfl dJ30_siftDownUsingComparator_92 (by omega) (by omega) ?_
      refine fin (fun i g1 g2 g3 => ?_)
      have := hc.2.2 i g1 g2 g3
      omega
  refine x_iload_n dJ30_siftDownUsingComparator_5 rfl ?_
  refine x_iload dJ30_siftDownUsingComparator_6 rfl ?_
  refine x_icmp_ge (t := 88) dJ30_siftDownUsingComparator_8 (by decide) (by omega) (fun c_8 => ?_) (fun c_8 => ?_)
  · skip
    refine x_aload_n dJ30_siftDownUsingComparator_88 rfl ?_
    refine x_iload_n dJ30_siftDownUsingComparator_89 rfl ?_
    refine x_aload_n dJ30_siftDownUsingComparator_90 rfl ?_
    refine g_aast (t := 3) (ci := 6) rfl rfl (by decide) (Or.inr q2733) (hA) (by first | assumption | omega) rfl (by omega) (hKx) dJ30_siftDownUsingComparator_91 ?_
    refine gw_vret rfl dJ30_siftDownUsingComparator_92 (by omega) (by omega) ?_
    refine fin (fun i g1 g2 g3 => ?_)
    omega
  · skip
    have hc1 : 2 * j + 1 < n := by omega
    have hco := hw (2 * j + 1) hc1
    have hKc := hco.1
    refine x_iload_n dJ30_siftDownUsingComparator_11 rfl ?_
    refine x_iconst dJ30_siftDownUsingComparator_12 ?_
    refine x_ishl dJ30_siftDownUsingComparator_13 ?_
    rw [(rr_hf (by omega)).2.2]
    refine x_iconst dJ30_siftDownUsingComparator_14 ?_
    refine x_iadd dJ30_siftDownUsingComparator_15 ?_
    refine x_istore dJ30_siftDownUsingComparator_16 (by decide) ?_
    refine x_aload_n dJ30_siftDownUsingComparator_18 rfl ?_
    refine x_iload dJ30_siftDownUsingComparator_19 rfl ?_
    refine x_top ((2 * j + 1 : Nat) : Int) (by omega) ?_
    refine g_aald (t := 3) (r := some (w (2 * j + 1))) rfl rfl rfl (by first | assumption | grind) rfl (by omega) (hwa _ hc1 (by omega)) dJ30_siftDownUsingComparator_21 ?_
    refine x_astore dJ30_siftDownUsingComparator_22 (by decide) ?_
    refine x_iload dJ30_siftDownUsingComparator_24 rfl ?_
    refine x_iconst dJ30_siftDownUsingComparator_26 ?_
    refine x_iadd dJ30_siftDownUsingComparator_27 ?_
    refine x_istore dJ30_siftDownUsingComparator_28 (by decide) ?_
    refine x_iload dJ30_siftDownUsingComparator_30 rfl ?_
    refine x_iload_n dJ30_siftDownUsingComparator_32 rfl ?_
    refine x_icmp_ge (t := 61) dJ30_siftDownUsingComparator_33 (by decide) (by omega) (fun c_33 => ?_) (fun c_33 => ?_)
    · skip
      refine x_ls (ls2 := [some (vI (j : Int)), some (vR (some x)), some (vR (some A)), some (vI (n : Int)), some (vR (some o)), some (vI ((n : Int) / 2)), some (vI ((2 * j + 1 : Nat) : Int)), some (vR (some (w (2 * j + 1)))), some (vI (2 * (j : Int) + 1 + 1))]) (by simp) ?_
      exact step (2 * j + 1) _ ⟨Or.inl rfl, hc1, fun i g1 g2 g3 => by rw [show i = 2 * j + 1 by omega]; exact Int.le_refl _⟩
    · skip
      have hc2 : 2 * j + 2 < n := by omega
      have hdo := hw (2 * j + 2) hc2
      have hKd := hdo.1
      refine x_aload dJ30_siftDownUsingComparator_36 rfl ?_
      refine x_aload dJ30_siftDownUsingComparator_38 rfl ?_
      refine x_aload_n dJ30_siftDownUsingComparator_40 rfl ?_
      refine x_iload dJ30_siftDownUsingComparator_41 rfl ?_
      refine x_top ((2 * j + 2 : Nat) : Int) (by omega) ?_
      refine g_aald (t := 3) (r := some (w (2 * j + 2))) rfl rfl rfl (by first | assumption | grind) rfl (by omega) (hwa _ hc2 (by omega)) dJ30_siftDownUsingComparator_43 ?_
      refine g_cF2 (ci := 13) (jc_word ho hco hdo) (List.mem_of_getElem? (i := 6) rfl) q1648 q609 q611 q188 q613 (by decide +kernel) rfl (by decide) (by first | assumption | grind) (by decide) (Nat.le_of_ble_eq_true rfl) (by omega) (by omega) dJ30_siftDownUsingComparator_44 (fun v h2 n2 hp => ?_)
      obtain ⟨z, rfl, rfl, rfl, hz0, hz1, hz2⟩ := hp
      refine x_if_le (t := 61) dJ30_siftDownUsingComparator_49 (by decide) (by omega) (fun c_49 => ?_) (fun c_49 => ?_)
      · skip
        refine x_ls (ls2 := [some (vI (j : Int)), some (vR (some x)), some (vR (some A)), some (vI (n : Int)), some (vR (some o)), some (vI ((n : Int) / 2)), some (vI ((2 * j + 1 : Nat) : Int)), some (vR (some (w (2 * j + 1)))), some (vI (2 * (j : Int) + 1 + 1))]) (by simp) ?_
        refine step (2 * j + 1) _ ⟨Or.inl rfl, hc1, fun i g1 g2 g3 => ?_⟩
        rcases (show i = 2 * j + 1 ∨ i = 2 * j + 2 by omega) with q | q <;> rw [q] <;> omega
      · skip
        refine x_aload_n dJ30_siftDownUsingComparator_52 rfl ?_
        refine x_iload dJ30_siftDownUsingComparator_53 rfl ?_
        refine x_dup dJ30_siftDownUsingComparator_55 rfl ?_
        refine x_istore dJ30_siftDownUsingComparator_56 (by decide) ?_
        refine x_top ((2 * j + 2 : Nat) : Int) (by omega) ?_
        refine g_aald (t := 3) (r := some (w (2 * j + 2))) rfl rfl rfl (by first | assumption | grind) rfl (by omega) (hwa _ hc2 (by omega)) dJ30_siftDownUsingComparator_58 ?_
        refine x_astore dJ30_siftDownUsingComparator_59 (by decide) ?_
        refine x_ls (ls2 := [some (vI (j : Int)), some (vR (some x)), some (vR (some A)), some (vI (n : Int)), some (vR (some o)), some (vI ((n : Int) / 2)), some (vI ((2 * j + 2 : Nat) : Int)), some (vR (some (w (2 * j + 2)))), some (vI (2 * (j : Int) + 1 + 1))]) (by simp; constructor <;> (try omega) <;> rfl) ?_
        refine step (2 * j + 2) _ ⟨Or.inr rfl, hc2, fun i g1 g2 g3 => ?_⟩
        rcases (show i = 2 * j + 1 ∨ i = 2 * j + 2 by omega) with q | q <;> rw [q] <;> omega
end PQ
