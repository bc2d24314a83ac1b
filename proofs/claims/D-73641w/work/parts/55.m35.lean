set_option maxRecDepth 100000
/-! THE MODEL's methods, 35: test(), the walk -/
theorem knC_cg {l : List Int} {m m' : Int → Int} (h : ∀ i : Nat, i < l.length → m i = m' i) (j : Int) : knC l m j = knC l m' j := by
  unfold knC
  split
  · split
    · rename_i z; rw [h _ z]
    · rfl
  · split
    · rename_i z; rw [h _ z]
    · rfl
theorem knC_in {l : List Int} {m : Int → Int} (h : ∀ i : Nat, i < l.length → 0 ≤ m i ∧ m i < 50) (j : Int) : -1 ≤ knC l m j ∧ knC l m j < 10 := by
  unfold knC
  split
  · split
    · rename_i z; have := h _ z; omega
    · omega
  · split
    · rename_i z; have := h _ z; omega
    · omega
def TsPost (I : Nat → Int → Int) (m z : Int) (K : Nat → Int → Int) : Prop := Keep I K ∧ ((¬ (1 ≤ m ∧ m ≤ 50) ∧ z = -1) ∨ ((1 ≤ m ∧ m ≤ 50) ∧ ∃ J, LdPost I J ∧ z = v_test m J))
theorem c_test {I : Nat → Int → Int} {m : Int} (hm : i32 m) (h : MI I) (hN : NmOK I) (hx : 0 ≤ I 360 41 ∧ I 360 41 < 2147483648) : mQ yX4_test cX4_test 7 (some FieldType.int) 6 [vR (some 360), vI m] I (TsPost I m) := by
  have h4 := h.1.1.2.1
  have h12 := hN.1
  refine mQ.of (by decide) rfl (Nat.le_of_ble_eq_true rfl) (fun G nx => ?_)
  refine x_ls (ls2 := [some (vR (some 360)), some (vI m), none, none, none, none, none]) rfl ?_
  generalize hF : TsPost I m = F
  refine x_iload_n dX4_test_0 rfl ?_
  refine x_iconst dX4_test_1 ?_
  refine x_bipush dX4_test_2 (by decide) ?_
  refine m_cs3 (c_in (by omega) (by omega) (by omega)) fX4_in q2299 (by decide) (Nat.le_of_ble_eq_true rfl) dX4_test_4 ?_
  refine x_if_ne_b (t := 12) dX4_test_7 (by decide) (fun c_7 => ?_) (fun c_7 => ?_)
  · skip
    refine x_aload_n dX4_test_12 rfl ?_
    refine m_ew0 (c_lays h.1 h.2) fX4_lays q2398 (by decide) (Nat.le_of_ble_eq_true rfl) dX4_test_13 (fun J hJ => ?_)
    have hLd := hJ.2.1
    have e4 := hJ.1.2 4 (by decide)
    have e12 := hJ.1.2 12 (by decide)
    have e41 := hJ.1.2 41 (by decide)
    have hst : StOK J := StOK_eqx h.1.1 hJ.1 (by decide) (by decide) (by decide) (by decide) (by decide)
    have hgs := GsOK_eqx h.1.2.2.2.2.2.2 (hJ.1.1 369 (by decide) (by decide))
    have hNJ : NmOK J := NmOK_eqx hN (hJ.1.1 367 (by decide) (by decide)) (hJ.1.1 368 (by decide) (by decide)) e12
    have hW := hLd.wf hst
    have hki := hLd.ki hgs (by omega)
    refine x_aload_n dX4_test_16 rfl ?_
    refine m_cv0 (c_hitsNow (by omega) hW hki hNJ) fX4_hitsNow q2662 (by decide) (Nat.le_of_ble_eq_true rfl) dX4_test_17 ?_
    refine x_istore_n dX4_test_20 (by decide) ?_
    refine x_aload_n dX4_test_21 rfl ?_
    refine m_qv0 (c_laysWhole (by omega) hki hLd.so) fX4_laysWhole q2694 (by decide) (Nat.le_of_ble_eq_true rfl) dX4_test_22 (fun n J1 hJ1 => ?_)
    obtain ⟨hn, hE1⟩ := hJ1
    refine x_istore_n dX4_test_25 (by decide) ?_
    refine x_aload_n dX4_test_26 rfl ?_
    refine m_getI (kf := 41) 41 (by decide) rfl rfl q2156 rfl dX4_test_27 ?_
    rw [hE1.1.2 41 (by decide)]
    refine x_istore dX4_test_30 (by decide) ?_
    refine x_iconst dX4_test_32 ?_
    refine x_istore dX4_test_33 (by decide) ?_
    refine x_iconst dX4_test_35 ?_
    refine x_istore dX4_test_36 (by decide) ?_
    have hlin := wlN_in J (J 360 4).toNat
    have hlnd := wlN_nd J (J 360 4).toNat
    have hlW : wlL J = wlN J (J 360 4).toNat := rfl
    rw [← hlW] at hlin hlnd
    have hmost := hitV_in (lxI J) (nmsL J) (J 385)
    have hnml : (nmsL J).length ≤ 4 := by simp [nmsL]; omega
    have hw240 := hW.2.1
    have hprod : ((nmsL J).length : Int) * (lxI J).length ≤ 960 := by
      have : (nmsL J).length * (lxI J).length ≤ 4 * 240 := Nat.mul_le_mul hnml hw240
      exact_mod_cast this
    generalize hmo : hitV (lxI J) (nmsL J) (J 385) = most at *
    generalize hl : wlL J = l at *
    subst hn
    have hL20 : ∀ q ∈ lxI J, ∀ c ∈ q.1, 0 ≤ c ∧ c < 20 := fun q hq c hc => by
      obtain ⟨i, hi⟩ := List.getElem?_of_mem hq
      exact (hLd.we.2 i q hi).2.2 c hc
    have hv50 : ∀ i : Nat, i < l.length → 0 ≤ vlL J l i ∧ vlL J l i < 50 := fun i hi => by
      unfold vlL vlF
      rw [show ((i : Nat) : Int).toNat = i by omega]
      have hc : l.getD i 0 ∈ l := by
        rw [List.getD_eq_getElem?_getD, List.getElem?_eq_getElem hi]
        exact List.getElem_mem hi
      have h1 := hlin.2 _ hc
      have h2 := hki.at (f := l.getD i 0) (by omega)
      have h3 := h1.2.2.2
      unfold whl at h3
      have h5 := hki 0 (l.getD i 0) (Or.inl rfl) (by omega) (by omega)
      have h6 : J 385 (20 + l.getD i 0) < 5 := by
        have := hLd.kn 1 (l.getD i 0) (Or.inr rfl) (by omega) (by omega)
        rw [show 20 * 1 + l.getD i 0 = 20 + l.getD i 0 by omega] at this
        rw [this]
        have key : ∀ (k : Nat) (lo : Int), lsN (gsd J 1 (l.getD i 0)) (fun g => partOf (J 369 (4 + g)) 1) k lo < 5 := by
          intro k
          induction k with
          | zero => intro lo; simp [lsN]
          | succ k ih =>
            intro lo
            simp only [lsN]
            split
            · unfold partOf; rw [if_neg (by decide)]; omega
            · exact ih _
        exact key _ _
      omega
    have hc0 : (0 : Int) + tsR (hitV (lxI J) (nmsL J)) most l (vlL J l) (m.toNat - 0) (J 360 41) = tsR (hitV (lxI J) (nmsL J)) most l (vlL J l) m.toNat (J 360 41) := by rw [Int.zero_add]; rfl
    refine x_loc (ls2 := [some (vR (some 360)), some (vI m), some (vI most), some (vI (l.length : Int)), some (vI (J 360 41)), some (vI (((0 : Nat), (0 : Int), J1) : Nat × Int × (Nat → Int → Int)).2.1), some (vI ((((0 : Nat), (0 : Int), J1) : Nat × Int × (Nat → Int → Int)).1 : Int))]) (by repeat first | exact trivial | refine ⟨Or.inr rfl, ?_⟩ | refine ⟨Or.inl rfl, ?_⟩) ?_
    refine rr_ind (W := fun q : Nat × Int × (Nat → Int → Int) => mq G yX4_test cX4_test 7 (some FieldType.int) 6 nx _ 38 [some (vR (some 360)), some (vI m), some (vI most), some (vI (l.length : Int)), some (vI (J 360 41)), some (vI q.2.1), some (vI (q.1 : Int))] [] q.2.2) (fun q => m.toNat - q.1) (fun q => q.1 ≤ m.toNat ∧ eqx J1 q.2.2 [385, 390] [41] ∧ (0 ≤ q.2.2 360 41 ∧ q.2.2 360 41 < 2147483648) ∧ q.2.1 + tsR (hitV (lxI J) (nmsL J)) most l (vlL J l) (m.toNat - q.1) (q.2.2 360 41) = tsR (hitV (lxI J) (nmsL J)) most l (vlL J l) m.toNat (J 360 41)) ?_ ((0 : Nat), (0 : Int), J1) ⟨by simp, eqx.rf _ _ _, by simp only; rw [hE1.1.2 41 (by decide), e41]; exact hx, by simp only; rw [hE1.1.2 41 (by decide)]; exact hc0⟩
    rintro ⟨i, c, K⟩ ⟨hi, hK, hxK, hsum⟩ ih
    simp only at hi hK hxK hsum ih
    dsimp only
    have eJK : eqx J K [388, 389, 385, 390] [41] := (hE1.1.mono (by decide) (by decide)).tr (hK.mono (by decide) (by decide))
    refine x_iload dX4_test_38 rfl ?_
    refine x_iload_n dX4_test_40 rfl ?_
    refine x_icmp_ge (t := 76) dX4_test_41 (by decide) (by omega) (fun c_41 => ?_) (fun c_41 => ?_)
    · skip
      have him : m.toNat - i = 0 := by omega
      rw [him] at hsum
      have hsum : c + 0 = _ := hsum
      rw [Int.add_zero] at hsum
      have eV : eqx J (rr_u2 K 360 41 (J 360 41)) [388, 389, 385, 390] [] := ⟨fun x a b => by funext j; rw [rr_u2_ne _ _ (fun z => a z.1), eJK.1 x a b], fun j hj => by
        by_cases e : j = 41
        · rw [e, rr_u2_same]
        · rw [rr_u2_ne _ _ (fun z => e z.2)]; exact eJK.2 j (by simpa using e)⟩
      refine x_aload_n dX4_test_76 rfl ?_
      refine x_iload dX4_test_77 rfl ?_
      refine m_putI (kf := 41) 41 (by decide) rfl rfl q2156 rfl rfl (rr_nar_i _) dX4_test_79 ?_
      generalize rr_u2 K 360 41 (J 360 41) = V at *
      have hgV : GsOK V := GsOK_eqx hgs (eV.1 369 (by decide) (by decide))
      have hrV : GrIn V := fun k f hk a b => by
        rw [eV.2 4 (by decide)] at b
        rw [eV.1 383 (by decide) (by decide)]
        rcases hk with rfl | rfl
        · exact (hLd.g0.1 f a b).1
        · exact (hLd.g1.1 f a b).1
      refine x_aload_n dX4_test_82 rfl ?_
      refine m_ew0 (c_laysKnown (I := V) (by rw [eV.2 4 (by decide)]; omega) hgV hrV) fX4_laysKnown q2498 (by decide) (Nat.le_of_ble_eq_true rfl) dX4_test_83 (fun U hU => ?_)
      refine x_iload dX4_test_86 rfl ?_
      refine x_iret rfl dX4_test_88 (Nat.le_refl _) (Nat.le_refl _) ?_
      rw [← hF]
      have eU : eqx J U [385, 388, 389, 390] [] := (eV.mono (by decide) (by decide)).tr (hU.1.mono (by decide) (by decide))
      have hLU : Laid U := Laid_kn hLd eU (fun k f hk a b => by
        rw [knV_eq (I := V) (hU.1.1 369 (by decide) (by decide)) (hU.1.1 383 (by decide) (by decide)) (hU.1.2 4 (by decide))]
        exact hU.2 k f hk a (by rw [← hU.1.2 4 (by decide)]; exact b))
      refine ⟨_, rfl, rfl, _, rfl, ⟨(hJ.1.mono (by decide) (by decide)).tr (eU.mono (by decide) (by decide)), Or.inr ⟨by rw [eU.2 45 (by decide)]; exact hJ.2.2, hLU⟩⟩, Or.inr ⟨by omega, J, hJ, ?_⟩⟩
      unfold v_test
      rw [if_pos (by omega), hmo, hl]
      exact hsum
    · skip
      refine x_aload_n dX4_test_44 rfl ?_
      refine x_iload_n dX4_test_45 rfl ?_
      refine m_ew1 (c_mixes (I := K) (l := l) hxK (by have := hlin.1; omega) hlnd (fun c hc => by have := hlin.2 c hc; omega) (fun i hi => by rw [hK.1 388 (by decide) (by decide)]; exact (hE1.2 i hi).1) (fun i hi => by
      rw [hK.1 389 (by decide) (by decide), (hE1.2 i hi).2]
      have := hv50 i hi
      unfold vlL at this
      rw [show ((i : Nat) : Int).toNat = i by omega] at this
      exact this)) fX4_mixes q2698 (by decide) (Nat.le_of_ble_eq_true rfl) dX4_test_46 (fun K2 hK2 => ?_)
      obtain ⟨k1, k2, k3⟩ := hK2
      have hvv : ∀ j, 0 ≤ j → j < (l.length : Int) → fl K 390 0 l.length (K 389) 390 j = vlL J l j := fun j a b => by
        simp only [fl]
        rw [if_pos ⟨trivial, a, b⟩, hK.1 389 (by decide) (by decide)]
        have := (hE1.2 j.toNat (by omega)).2
        rw [show ((j.toNat : Nat) : Int) = j by omega] at this
        exact this
      have hsc : (shN (l.length - 1) (K 360 41) (fl K 390 0 l.length (K 389) 390)).1 = (shN (l.length - 1) (K 360 41) (vlL J l)).1 ∧ ∀ j : Nat, j < l.length → (shN (l.length - 1) (K 360 41) (fl K 390 0 l.length (K 389) 390)).2 j = (shN (l.length - 1) (K 360 41) (vlL J l)).2 j := by
        by_cases e0 : l.length = 0
        · rw [e0]; exact ⟨rfl, fun j hj => by omega⟩
        · obtain ⟨a, b⟩ := shN_cg (l.length - 1) l.length (K 360 41) _ _ (by omega) hvv
          exact ⟨a, fun j hj => b j (by omega) (by omega)⟩
      have hs50 : ∀ j : Nat, j < l.length → 0 ≤ (shN (l.length - 1) (K 360 41) (vlL J l)).2 j ∧ (shN (l.length - 1) (K 360 41) (vlL J l)).2 j < 50 := fun j hj => shN_in (l.length - 1) l.length (K 360 41) (vlL J l) (by omega) (fun i a b => by have := hv50 i.toNat (by omega); rw [show ((i.toNat : Nat) : Int) = i by omega] at this; exact this) j (by omega) (by omega)
      have hcan : ∀ f, 0 ≤ f → f < 20 → K2 385 f = knC l (shN (l.length - 1) (K 360 41) (vlL J l)).2 f ∧ K2 385 (20 + f) = knC l (shN (l.length - 1) (K 360 41) (vlL J l)).2 (20 + f) := fun f a b => by
        obtain ⟨c1, c2⟩ := k3.can ⟨a, b⟩
        rw [c1, c2]
        exact ⟨knC_cg hsc.2 _, knC_cg hsc.2 _⟩
      rw [hsc.1] at k2
      have eJ2 : eqx J K2 [388, 389, 385, 390] [41] := eJK.tr (k1.mono (by decide) (by decide))
      have hW2 : WF K2 (lxI J) := ⟨WE_eqx hW.1 eJ2 (by decide) (by decide) (by decide) (by decide), hW.2.1, by rw [eJ2.2 4 (by decide)]; exact hW.2.2⟩
      have hN2 : NmOK K2 := NmOK_eqx hNJ (eJ2.1 367 (by decide) (by decide)) (eJ2.1 368 (by decide) (by decide)) (eJ2.2 12 (by decide))
      have hki2 : KnIn K2 := fun k f hk a b => by
        rw [eJ2.2 4 (by decide)] at b
        obtain ⟨c1, c2⟩ := hcan f a (by omega)
        rcases hk with rfl | rfl
        · rw [show 20 * 0 + f = f by omega, c1]; exact knC_in hs50 _
        · rw [show 20 * 1 + f = 20 + f by omega, c2]; exact knC_in hs50 _
      have hnm2 : nmsL K2 = nmsL J := by unfold nmsL nmL; rw [eJ2.2 12 (by decide), eJ2.1 367 (by decide) (by decide), eJ2.1 368 (by decide) (by decide)]
      have hhit : hitV (lxI J) (nmsL K2) (K2 385) = hitV (lxI J) (nmsL J) (knC l (shN (l.length - 1) (K 360 41) (vlL J l)).2) := by
        rw [hnm2]
        refine hitV_cg hL20 hcan (fun i hi => ?_)
        simp only [nmsL, List.length_map, List.length_range] at hi
        have := (hNJ.2 i (by omega) (by omega)).1
        have e : (nmsL J).getD i [] = nmL J i := by simp [nmsL, hi]
        rw [e, nmL_len]
        omega
      have hhin := hitV_in (lxI J) (nmsL J) (knC l (shN (l.length - 1) (K 360 41) (vlL J l)).2)
      refine x_iload dX4_test_49 rfl ?_
      refine x_aload_n dX4_test_51 rfl ?_
      refine m_cv0 (c_hitsNow (L := lxI J) (by rw [eJ2.2 4 (by decide)]; omega) hW2 hki2 hN2) fX4_hitsNow q2662 (by decide) (Nat.le_of_ble_eq_true rfl) dX4_test_52 ?_
      rw [hhit]
      refine x_iload_n dX4_test_55 rfl ?_
      refine x_icmp_lt (t := 63) dX4_test_56 (by decide) (by omega) (fun c_56 => ?_) (fun c_56 => ?_)
      · skip
        refine x_iconst dX4_test_63 ?_
        refine x_top (bi (most ≤ hitV (lxI J) (nmsL J) (knC l (shN (l.length - 1) (K 360 41) (vlL J l)).2))) (by first | exact (bi_t (by omega)).symm | exact (bi_f (by omega)).symm) ?_
        refine m_cs1 (c_truth) fX4_truth q2327 (by decide) (Nat.le_of_ble_eq_true rfl) dX4_test_64 ?_
        refine x_iadd dX4_test_67 ?_
        refine x_istore dX4_test_68 (by decide) ?_
        refine x_iinc dX4_test_70 rfl (by decide) ?_
        refine x_goto (t := 38) dX4_test_73 (by decide) ?_
        have hts : tsR (hitV (lxI J) (nmsL J)) most l (vlL J l) (m.toNat - i) (K 360 41) = bi (most ≤ hitV (lxI J) (nmsL J) (knC l (shN (l.length - 1) (K 360 41) (vlL J l)).2)) + tsR (hitV (lxI J) (nmsL J)) most l (vlL J l) (m.toNat - (i + 1)) (shN (l.length - 1) (K 360 41) (vlL J l)).1 := by
          rw [show m.toNat - i = (m.toNat - (i + 1)) + 1 by omega]
          rfl
        have hgo := ih (i + 1, c + bi (most ≤ hitV (lxI J) (nmsL J) (knC l (shN (l.length - 1) (K 360 41) (vlL J l)).2)), K2) ⟨by simp only; omega, hK.tr (k1.mono (by decide) (by decide)), by simp only; rw [k2]; exact shN_x _ _ _ hxK, by simp only; rw [k2, ← hsum, hts]; omega⟩ (by simp only; omega)
        exact x_loc (by rw [show (((i + 1, c + bi (most ≤ hitV (lxI J) (nmsL J) (knC l (shN (l.length - 1) (K 360 41) (vlL J l)).2)), K2) : Nat × Int × (Nat → Int → Int)).1 : Int) = (i : Int) + 1 by simp only; omega]; exact (by repeat first | exact trivial | refine ⟨Or.inr rfl, ?_⟩ | refine ⟨Or.inl rfl, ?_⟩)) hgo
      · skip
        refine x_iconst dX4_test_59 ?_
        refine x_goto (t := 64) dX4_test_60 (by decide) ?_
        refine x_top (bi (most ≤ hitV (lxI J) (nmsL J) (knC l (shN (l.length - 1) (K 360 41) (vlL J l)).2))) (by first | exact (bi_t (by omega)).symm | exact (bi_f (by omega)).symm) ?_
        refine m_cs1 (c_truth) fX4_truth q2327 (by decide) (Nat.le_of_ble_eq_true rfl) dX4_test_64 ?_
        refine x_iadd dX4_test_67 ?_
        refine x_istore dX4_test_68 (by decide) ?_
        refine x_iinc dX4_test_70 rfl (by decide) ?_
        refine x_goto (t := 38) dX4_test_73 (by decide) ?_
        have hts : tsR (hitV (lxI J) (nmsL J)) most l (vlL J l) (m.toNat - i) (K 360 41) = bi (most ≤ hitV (lxI J) (nmsL J) (knC l (shN (l.length - 1) (K 360 41) (vlL J l)).2)) + tsR (hitV (lxI J) (nmsL J)) most l (vlL J l) (m.toNat - (i + 1)) (shN (l.length - 1) (K 360 41) (vlL J l)).1 := by
          rw [show m.toNat - i = (m.toNat - (i + 1)) + 1 by omega]
          rfl
        have hgo := ih (i + 1, c + bi (most ≤ hitV (lxI J) (nmsL J) (knC l (shN (l.length - 1) (K 360 41) (vlL J l)).2)), K2) ⟨by simp only; omega, hK.tr (k1.mono (by decide) (by decide)), by simp only; rw [k2]; exact shN_x _ _ _ hxK, by simp only; rw [k2, ← hsum, hts]; omega⟩ (by simp only; omega)
        exact x_loc (by rw [show (((i + 1, c + bi (most ≤ hitV (lxI J) (nmsL J) (knC l (shN (l.length - 1) (K 360 41) (vlL J l)).2)), K2) : Nat × Int × (Nat → Int → Int)).1 : Int) = (i : Int) + 1 by simp only; omega]; exact (by repeat first | exact trivial | refine ⟨Or.inr rfl, ?_⟩ | refine ⟨Or.inl rfl, ?_⟩)) hgo
  · skip
    refine x_iconst dX4_test_10 ?_
    refine x_iret rfl dX4_test_11 (Nat.le_refl _) (Nat.le_refl _) ?_
    rw [← hF]
    exact ⟨_, rfl, rfl, _, rfl, Keep.rf h.2, Or.inl ⟨by omega, rfl⟩⟩
