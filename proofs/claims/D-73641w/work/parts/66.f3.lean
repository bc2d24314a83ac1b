/-! ORDER: the values of a map, one behind another -/
set_option maxRecDepth 100000
section TM
variable {G : rr_G} {nx : Nat} {K N K2 N2 : Nat → Nat} {I I2 : Nat → Int → Int} {R R2 : Nat → Int → Option Nat} {κ M : Nat} {L : List Nat} {c : Nat → Int}
theorem x_icmp_same {y : MethodName} {cc : ByteArray} {nL : Nat} {ret : Option FieldType} {d mc ms : Nat} {Q : List Frame → Array Value → State → State → Prop} {pc : Nat} {ls : List (Option rr_V)} {st : List rr_V} {h : rr_H} {cu su : Nat} {a o : Int} {t : Nat} (dg : decode cc pc = .ok (.if_icmp .eq o, 3)) (ht : (pc : Int) + o = (t : Int)) (kt : rr_R G y cc nL ret d mc ms Q t ls st h nx cu su) : rr_R G y cc nL ret d mc ms Q pc ls (vI a :: vI a :: st) h nx cu su := by
  intro p e s m args below meth c H locs la hC hr hS hL
  exact lv_icmp_eq hC.1 hC.2.1 dg ht (fun _ => kt p e s m args below meth c H locs la hC hr hS hL) (fun w => absurd rfl w)
section RULES
variable {y : MethodName} {cc : ByteArray} {nL : Nat} {ret : Option FieldType} {d mc ms : Nat} {Q : List Frame → Array Value → State → State → Prop} {pc : Nat} {ls : List (Option rr_V)} {st : List rr_V} {cu su : Nat}
theorem g_getVal {idx x : Nat} {r : Option Nat} (hq : Cond.fieldLink y.cls idx "java/util/TreeMap" "values" "Ljava/util/Collection;" ∈ lw_all) (hx : K x = 16) (hv : R x 1 = r) (dg : decode cc pc = .ok (.getfield idx, 3)) (k : rr_R G y cc nL ret d mc ms Q (pc + 3) ls (vR r :: st) (K, N, I, R) nx cu su) : rr_R G y cc nL ret d mc ms Q pc ls (vR (some x) :: st) (K, N, I, R) nx cu su := by
  intro p e s m args below meth c H locs la hC hr hS hL
  have hc : rr_cl[16]? = some (RJ1, TJ1, 9) := rfl
  obtain ⟨cell, q1, q2, q3, q4⟩ := hr.obj hc (by decide) hx
  obtain ⟨hS1, hfc, kC, hkC, hkind⟩ := hC.2.2.2.2.2.2.2.2.1.1.1 16 _ hc
  obtain ⟨cf, kf1, fi, f, hi, hsl⟩ := hS1 1 (show 1 < 9 by decide)
  have hst := (u_facts hfc hkC (u_lays hC.2.2.2.2.2.1 (rr_ckn 16 _ hc).1 (show 1 < 9 by decide)) hi).1
  have hslot : cell.slots[f.slot]? = some (rr_g G (vR r)) := by
    rw [hsl]
    refine (q4 1 (show 1 < 9 by decide)).trans (congrArg some ?_)
    show rr_fv G (rr_ty 16 1) (I x 1) (R x 1) = _
    rw [hv]
    exact rr_fv_r G rfl _ _
  exact W.getf hC.1 hC.2.1 hC.2.2.2.2.1 (hC.2.2.2.2.2.1 _ hq) (u_same (hC.2.2.2.2.2.1 _ q283) _ hi) hst q1 (by rw [q3]; exact fun h => by cases h) hslot rfl rfl dg (k p e s m args below meth c H locs la hC hr hS hL)
theorem g_putVal {idx x : Nat} {r : Option Nat} (hq : Cond.fieldLink y.cls idx "java/util/TreeMap" "values" "Ljava/util/Collection;" ∈ lw_all) (hx : K x = 16) (hx3 : 300 ≤ x) (dg : decode cc pc = .ok (.putfield idx, 3)) (k : rr_R G y cc nL ret d mc ms Q (pc + 3) ls st (K, N, I, rr_u2 R x 1 r) nx cu su) : rr_R G y cc nL ret d mc ms Q pc ls (vR r :: vR (some x) :: st) (K, N, I, R) nx cu su := by
  intro p e s m args below meth c H locs la hC hr hS hL
  have hc : rr_cl[16]? = some (RJ1, TJ1, 9) := rfl
  obtain ⟨cell, q1, q2, q3, q4⟩ := hr.obj hc (by decide) hx
  have hvm := hC.2.2.2.2.2.2.2.2.1
  have hts := hC.2.2.2.2.2.1
  obtain ⟨hS1, hfc, kC, hkC, hkind⟩ := hvm.1.1 16 _ hc
  obtain ⟨cf, kf1, fi, f, hi, hsl⟩ := hS1 1 (show 1 < 9 by decide)
  have hl := u_lays hts (rr_ckn 16 _ hc).1 (show 1 < 9 by decide)
  have hst := (u_facts hfc hkC hl hi).1
  have hnf : narrow (rr_ty 16 1) (rr_g G (vR r)) = rr_g G (vR r) ∧ fits (rr_ty 16 1) (rr_g G (vR r)) = true := by cases r <;> exact ⟨rfl, rfl⟩
  have h6 := u_fits (s := s) hfc hkC hkind hl hi ((rr_ckn 16 _ hc).2.1 1 (show 1 < 9 by decide)) hnf.1 hnf.2
  have hsl : f.slot = G.2.2.2.2.1 16 1 := hsl
  have hlt : f.slot < cell.slots.size := by rw [hsl]; exact k2_hasslot (q4 1 (show 1 < 9 by decide))
  have ha : rr_ad G x < H.size := (Array.getElem?_eq_some_iff.mp q1).1
  have hfin2 : hasFlag f.accessFlags Acc.final = false ∨ (m.cls = cf ∧ meth.name = "<init>") := by
    left
    have hlay := hts _ ((rr_ckn 16 _ hc).1 _ (u_in_lay (show 1 < 9 by decide)))
    unfold u_lay at hlay
    rw [if_neg (by show ¬ (TJ1 1).2.2.2 = true; decide)] at hlay
    exact (u_store (s := s) hfc hkC hkind hlay hi ((rr_ckn 16 _ hc).2.1 1 (show 1 < 9 by decide)) hnf.1 hnf.2).1
  refine W.putf hC.1 hC.2.1 hC.2.2.2.2.1 (hts _ hq) (u_same (hts _ q283) _ hi) hst hfin2 q1 (by rw [q3]; exact fun h => by cases h) hlt h6.1 (by rw [q3, q2]; exact h6.2) rfl rfl dg ?_
  have e1 : (H.setIfInBounds (rr_ad G x) (cell.setSlot f.slot (rr_g G (vR r))))[rr_ad G x]? = some (cell.setSlot (G.2.2.2.2.1 16 1) (rr_g G (vR r))) := by rw [← hsl]; simp [ha]
  have z : (H.setIfInBounds (rr_ad G x) (cell.setSlot f.slot (rr_g G (vR r)))).size = H.size := by simp
  have oq : ∀ q, q ≠ rr_ad G x → (H.setIfInBounds (rr_ad G x) (cell.setSlot f.slot (rr_g G (vR r))))[q]? = H[q]? := fun q hq => by rw [Array.getElem?_setIfInBounds_ne (Ne.symm hq)]
  refine k p e s m args below meth c _ _ la hC (rr_obj_set (h' := (K, N, I, rr_u2 R x 1 r)) hc (by decide) hvm hts hr hx hx3 (show 1 < 9 by decide) q1 e1 z oq rfl rfl (fun _ _ => rfl) ?_ ?_ ?_) (hS.put z oq (hr.own hx3 (by show K x ≠ 0; omega))) hL
  · intro w hw
    funext j
    exact rr_u2_ne _ _ (fun q => hw q.1)
  · show rr_fv G (rr_ty 16 1) (I x 1) (rr_u2 R x 1 r x 1) = _
    rw [rr_u2_same]
    exact rr_fv_r G rfl _ _
  · intro j hj
    exact ⟨rfl, rr_u2_ne _ _ (fun q => hj (by omega))⟩
end RULES
theorem Tm.mono (h : Tm K N I R κ M L c) (hk : ∀ x, K x ≠ 0 → K2 x = K x ∧ N2 x = N x) (hi : ∀ x, (K x = 14 ∨ K x = 65 ∨ K x = 22) → I2 x = I x) (hr : ∀ x, K x = 14 → R2 x = R x) (hM : I2 M 4 = I M 4 ∧ R2 M 2 = R M 2 ∧ R2 M 3 = R M 3) (he : ∀ e, e ∈ L → I2 e 5 = I e 5 ∧ R2 e 0 = R e 0 ∧ R2 e 2 = R e 2 ∧ R2 e 3 = R e 3 ∧ R2 e 4 = R e 4) : Tm K2 N2 I2 R2 κ M L c := by
  obtain ⟨⟨a1, a2, a3, a4⟩, ⟨ps, lo, hi2, ht⟩, hE, hs, hl⟩ := h
  refine ⟨⟨by rw [(hk M (by omega)).1]; exact a1, a2, by rw [hM.2.1]; exact a3, by rw [hM.1]; exact a4⟩, ⟨ps, lo, hi2, ?_⟩, fun e hm => ?_, hs, hl⟩
  · rw [hM.2.2]
    exact ht.congr (fun e hm => ⟨(he e hm).2.2.1, (he e hm).2.2.2.1, (he e hm).2.2.2.2⟩)
  · obtain ⟨b1, b2, b3, k, b4, b5⟩ := hE e hm
    exact ⟨by rw [(hk e (by omega)).1]; exact b1, b2, by rw [(he e hm).1]; exact b3, k, by rw [(he e hm).2.1]; exact b4, b5.keep hk hi hr⟩
theorem jc_first (hT : Tm K N I R κ M L c) : gP G yJ1_getFirstEntry cJ1_getFirstEntry 2 ((some (FieldType.object "java/util/TreeMap$Entry"))) 0 0 0 [vR (some M)] (K, N, I, R) nx (gEq (vR L[0]?) (K, N, I, R) nx) := by
  obtain ⟨⟨hM, hM3, hcmp, hsz⟩, ⟨ps, lo, hi, ht⟩, hE, hsort, hlen⟩ := hT
  refine gP.of (by decide) rfl (Nat.le_of_ble_eq_true rfl) ?_
  refine x_ls (ls2 := [some (vR (some M)), none]) rfl ?_
  refine x_aload_n dJ1_getFirstEntry_0 rfl ?_
  refine g_getR 3 (r := _) (ci := 16) (kf := 3) rfl (by decide) (by decide) rfl rfl q277 rfl (by first | assumption | grind) rfl dJ1_getFirstEntry_1 ?_
  refine x_astore_n dJ1_getFirstEntry_4 (by decide) ?_
  refine x_aload_n dJ1_getFirstEntry_5 rfl ?_
  refine x_ifnull (t := 24) dJ1_getFirstEntry_6 (by decide) (fun c_6 => ?_) (fun x_6 c_6 => ?_)
  · skip
    have hL := ht.2.2.2.2.2.2.2.2.2.1 c_6
    subst hL
    refine x_aload_n dJ1_getFirstEntry_24 rfl ?_
    refine gp_aret rfl (Or.inl ⟨_, rfl⟩) dJ1_getFirstEntry_25 (by omega) (by omega) ?_
    exact ⟨by rw [c_6]; rfl, rfl, rfl⟩
  · skip
    have hr := ht.2.2.2.2.2.2.2.2.2.2 x_6 c_6
    refine x_ls (ls2 := [some (vR (some M)), some (vR (some x_6))]) (by rw [c_6]; rfl) ?_
    refine rr_ind (W := fun x : Nat => gp G yJ1_getFirstEntry cJ1_getFirstEntry 2 ((some (FieldType.object "java/util/TreeMap$Entry"))) 0 0 0 (gEq (vR L[0]?) (K, N, I, R) nx) 9 [some (vR (some M)), some (vR (some x))] [] (K, N, I, R) nx 0 0) (fun x => hi x - lo x) (fun x => x ∈ L ∧ lo x = 0) ?_ x_6 ⟨hr.1, hr.2.2.1⟩
    rintro x ⟨hx, hl0⟩ ih
    have hKx := (hE x hx).1
    have hx3 := ht.2.2.1 x hx
    refine x_aload_n dJ1_getFirstEntry_9 rfl ?_
    refine g_getR 2 (r := _) (ci := 17) (kf := 2) rfl (by decide) (by decide) rfl rfl q898 rfl (by first | assumption | grind) rfl dJ1_getFirstEntry_10 ?_
    refine x_ifnull (t := 24) dJ1_getFirstEntry_13 (by decide) (fun c_13 => ?_) (fun x_13 c_13 => ?_)
    · skip
      refine x_aload_n dJ1_getFirstEntry_24 rfl ?_
      refine gp_aret rfl (Or.inl ⟨_, rfl⟩) dJ1_getFirstEntry_25 (by omega) (by omega) ?_
      have e1 := ht.2.2.2.1 x hx c_13
      have e2 := ht.1 x hx
      rw [← e1, hl0] at e2
      exact ⟨by rw [e2], rfl, rfl⟩
    · skip
      have hl := ht.lc hx c_13
      refine x_aload_n dJ1_getFirstEntry_16 rfl ?_
      refine g_getR 2 (r := some x_13) (ci := 17) (kf := 2) rfl (by decide) (by decide) rfl rfl q898 rfl (by first | assumption | grind) (c_13) dJ1_getFirstEntry_17 ?_
      refine x_astore_n dJ1_getFirstEntry_20 (by decide) ?_
      refine x_goto (t := 9) dJ1_getFirstEntry_21 (by decide) ?_
      exact ih x_13 ⟨hl.1, by omega⟩ (by have := ht.2.2.1 x_13 hl.1; omega)
theorem jc_succ {e i : Nat} (hT : Tm K N I R κ M L c) (hi0 : L[i]? = some e) : gP G yJ1_successor cJ1_successor 3 ((some (FieldType.object "java/util/TreeMap$Entry"))) 0 0 0 [vR (some e)] (K, N, I, R) nx (gEq (vR L[i + 1]?) (K, N, I, R) nx) := by
  obtain ⟨⟨hM, hM3, hcmp, hsz⟩, ⟨ps, lo, hi, ht⟩, hE, hsort, hlen⟩ := hT
  have he := List.mem_of_getElem? hi0
  have hpe := ht.2.1 i e hi0
  have hKe := (hE e he).1
  have he3 := ht.2.2.1 e he
  refine gP.of (by decide) rfl (Nat.le_of_ble_eq_true rfl) ?_
  refine x_ls (ls2 := [some (vR (some e)), none, none]) rfl ?_
  refine x_aload_n dJ1_successor_0 rfl ?_
  refine x_ifnonnull_y (t := 6) dJ1_successor_1 (by decide) ?_
  refine x_aload_n dJ1_successor_6 rfl ?_
  refine g_getR 3 (r := _) (ci := 17) (kf := 3) rfl (by decide) (by decide) rfl rfl q899 rfl (by first | assumption | grind) rfl dJ1_successor_7 ?_
  refine x_ifnull (t := 35) dJ1_successor_10 (by decide) (fun c_10 => ?_) (fun x_10 c_10 => ?_)
  · skip
    refine x_aload_n dJ1_successor_35 rfl ?_
    refine g_getR 4 (r := _) (ci := 17) (kf := 4) rfl (by decide) (by decide) rfl rfl q901 rfl (by first | assumption | grind) rfl dJ1_successor_36 ?_
    refine x_astore_n dJ1_successor_39 (by decide) ?_
    refine x_aload_n dJ1_successor_40 rfl ?_
    refine x_astore_n dJ1_successor_41 (by decide) ?_
    have hhi := ht.2.2.2.2.2.1 e he c_10
    refine rr_ind (W := fun x : Nat => gp G yJ1_successor cJ1_successor 3 ((some (FieldType.object "java/util/TreeMap$Entry"))) 0 0 0 (gEq (vR L[i + 1]?) (K, N, I, R) nx) 42 [some (vR (some e)), some (vR (R x 4)), some (vR (some x))] [] (K, N, I, R) nx 0 0) (fun x => L.length - (hi x - lo x)) (fun x => x ∈ L ∧ hi x = i + 1) ?_ e ⟨he, by omega⟩
    rintro x ⟨hx, hl0⟩ ih
    have hKx := (hE x hx).1
    have hx3 := ht.2.2.1 x hx
    refine x_aload_n dJ1_successor_42 rfl ?_
    refine x_ifnull (t := 64) dJ1_successor_43 (by decide) (fun c_43 => ?_) (fun x_43 c_43 => ?_)
    · skip
      refine x_aload_n dJ1_successor_64 rfl ?_
      refine gp_aret rfl (Or.inl ⟨_, rfl⟩) dJ1_successor_65 (by omega) (by omega) ?_
      first
        | (have hr := ht.2.2.2.2.2.2.2.2.2.2 x (ht.2.2.2.2.2.2.2.1 x hx c_43)
           exact ⟨by rw [c_43, List.getElem?_eq_none (by omega)], rfl, rfl⟩)
        | (have e2 := ht.1 x_43 hpc.1
           have e3 : ps x_43 = i + 1 := by
             rcases hpc.2.2 with q | q
             · omega
             · exact absurd q.1.symm c_51
           rw [e3] at e2
           exact ⟨by rw [e2], rfl, rfl⟩)
    · skip
      have hpc := ht.pc hx c_43
      have hKp := (hE x_43 hpc.1).1
      have hp3 := ht.2.2.1 x_43 hpc.1
      rw [c_43]
      refine x_aload_n dJ1_successor_46 rfl ?_
      refine x_aload_n dJ1_successor_47 rfl ?_
      refine g_getR 3 (r := _) (ci := 17) (kf := 3) rfl (by decide) (by decide) rfl rfl q899 rfl (by first | assumption | grind) rfl dJ1_successor_48 ?_
      refine x_acmp_ne (t := 64) (by intro w hw; cases hw; exact ⟨by show K x ≠ 0; omega, (hE x hx).2.1⟩) (by intro w hw; have hw2 := (ht.rc hpc.1 hw).1; exact ⟨by show K w ≠ 0; have := (hE w hw2).1; omega, (hE w hw2).2.1⟩) dJ1_successor_51 (by decide) (fun c_51 => ?_) (fun c_51 => ?_)
      · skip
        refine x_aload_n dJ1_successor_64 rfl ?_
        refine gp_aret rfl (Or.inl ⟨_, rfl⟩) dJ1_successor_65 (by omega) (by omega) ?_
        first
          | (have hr := ht.2.2.2.2.2.2.2.2.2.2 x (ht.2.2.2.2.2.2.2.1 x hx c_43)
             exact ⟨by rw [c_43, List.getElem?_eq_none (by omega)], rfl, rfl⟩)
          | (have e2 := ht.1 x_43 hpc.1
             have e3 : ps x_43 = i + 1 := by
               rcases hpc.2.2 with q | q
               · omega
               · exact absurd q.1.symm c_51
             rw [e3] at e2
             exact ⟨by rw [e2], rfl, rfl⟩)
      · skip
        refine x_aload_n dJ1_successor_54 rfl ?_
        refine x_astore_n dJ1_successor_55 (by decide) ?_
        refine x_aload_n dJ1_successor_56 rfl ?_
        refine g_getR 4 (r := _) (ci := 17) (kf := 4) rfl (by decide) (by decide) rfl rfl q901 rfl (by first | assumption | grind) rfl dJ1_successor_57 ?_
        refine x_astore_n dJ1_successor_60 (by decide) ?_
        refine x_goto (t := 42) dJ1_successor_61 (by decide) ?_
        refine ih x_43 ⟨hpc.1, ?_⟩ ?_
        · rcases hpc.2.2 with q | q
          · exact absurd c_51.symm q.2.1
          · omega
        · rcases hpc.2.2 with q | q <;> omega
  · skip
    have hrc := ht.rc he c_10
    refine x_aload_n dJ1_successor_13 rfl ?_
    refine g_getR 3 (r := some x_10) (ci := 17) (kf := 3) rfl (by decide) (by decide) rfl rfl q899 rfl (by first | assumption | grind) (c_10) dJ1_successor_14 ?_
    refine x_astore_n dJ1_successor_17 (by decide) ?_
    refine rr_ind (W := fun x : Nat => gp G yJ1_successor cJ1_successor 3 ((some (FieldType.object "java/util/TreeMap$Entry"))) 0 0 0 (gEq (vR L[i + 1]?) (K, N, I, R) nx) 18 [some (vR (some e)), some (vR (some x)), none] [] (K, N, I, R) nx 0 0) (fun x => hi x - lo x) (fun x => x ∈ L ∧ lo x = i + 1) ?_ x_10 ⟨hrc.1, by omega⟩
    rintro x ⟨hx, hl0⟩ ih
    have hKx := (hE x hx).1
    have hx3 := ht.2.2.1 x hx
    refine x_aload_n dJ1_successor_18 rfl ?_
    refine g_getR 2 (r := _) (ci := 17) (kf := 2) rfl (by decide) (by decide) rfl rfl q898 rfl (by first | assumption | grind) rfl dJ1_successor_19 ?_
    refine x_ifnull (t := 33) dJ1_successor_22 (by decide) (fun c_22 => ?_) (fun x_22 c_22 => ?_)
    · skip
      refine x_aload_n dJ1_successor_33 rfl ?_
      refine gp_aret rfl (Or.inl ⟨_, rfl⟩) dJ1_successor_34 (by omega) (by omega) ?_
      have e1 := ht.2.2.2.1 x hx c_22
      have e2 := ht.1 x hx
      rw [← e1, hl0] at e2
      exact ⟨by rw [e2], rfl, rfl⟩
    · skip
      have hl := ht.lc hx c_22
      refine x_aload_n dJ1_successor_25 rfl ?_
      refine g_getR 2 (r := some x_22) (ci := 17) (kf := 2) rfl (by decide) (by decide) rfl rfl q898 rfl (by first | assumption | grind) (c_22) dJ1_successor_26 ?_
      refine x_astore_n dJ1_successor_29 (by decide) ?_
      refine x_goto (t := 18) dJ1_successor_30 (by decide) ?_
      exact ih x_22 ⟨hl.1, by omega⟩ (by have := ht.2.2.1 x_22 hl.1; omega)
theorem jc_vinit {V : Nat} (hV : K V = 19) (hV3 : 300 ≤ V) : gW G yJ20_init cJ20_init 2 (none) 2 0 0 [vR (some V), vR (some M)] (K, N, I, R) nx (gEw (K, N, I, rr_u2 R V 0 (some M)) nx) := by
  refine gW.of (by decide) rfl (Nat.le_of_ble_eq_true rfl) ?_
  refine x_ls (ls2 := [some (vR (some V)), some (vR (some M))]) rfl ?_
  refine x_aload_n dJ20_init_0 rfl ?_
  refine x_aload_n dJ20_init_1 rfl ?_
  refine g_putR 0 (ci := 19) (kf := 0) rfl (by decide) (by decide) rfl rfl q1054 rfl (by first | assumption | grind) (by first | assumption | omega) (Or.inr ⟨rfl, rfl, rfl⟩) dJ20_init_2 ?_
  refine x_aload_n dJ20_init_5 rfl ?_
  refine g_ci0 (jc_acinit) fJ16_init q1053 (by decide) (Nat.le_of_ble_eq_true rfl) (by omega) (by omega) dJ20_init_6 (fun h2 n2 hp => ?_)
  obtain ⟨rfl, rfl⟩ := hp
  refine gw_vret rfl dJ20_init_9 (by omega) (by omega) ?_
  exact ⟨rfl, rfl⟩
theorem jc_values (hM : K M = 16) (hM3 : 300 ≤ M) (hv : R M 1 = none) : gP G yJ1_values cJ1_values 2 ((some (FieldType.object "java/util/Collection"))) 3 1 1 [vR (some M)] (K, N, I, R) nx (gEq (vR (some nx)) (rr_u1 K nx 19, rr_u1 N nx 0, rr_u1 I nx (fun _ => 0), rr_u2 (rr_u2 (rr_u1 R nx (fun _ => none)) nx 0 (some M)) M 1 (some nx)) (nx + 1)) := by
  refine gP.of (by decide) rfl (Nat.le_of_ble_eq_true rfl) ?_
  refine x_ls (ls2 := [some (vR (some M)), none]) rfl ?_
  refine x_live (fun hlv h3 => ?_)
  have hMx : M ≠ nx := by have := hlv M (by show K M ≠ 0; omega); omega
  refine x_aload_n dJ1_values_0 rfl ?_
  refine g_getVal (r := none) q282 hM hv dJ1_values_1 ?_
  refine x_astore_n dJ1_values_4 (by decide) ?_
  refine x_aload_n dJ1_values_5 rfl ?_
  refine x_ifnonnull_n dJ1_values_6 ?_
  refine g_new 19 rfl (by decide) q1048 q1049 q170 (by omega) (by omega) dJ1_values_9 ?_
  refine x_dup dJ1_values_12 rfl ?_
  refine x_aload_n dJ1_values_13 rfl ?_
  refine g_ci1 (jc_vinit (by simp [rr_u1]) h3) fJ20_init q1050 (by decide) (Nat.le_of_ble_eq_true rfl) (by omega) (by omega) dJ1_values_14 (fun h2 n2 hp => ?_)
  obtain ⟨rfl, rfl⟩ := hp
  refine x_astore_n dJ1_values_17 (by decide) ?_
  refine x_aload_n dJ1_values_18 rfl ?_
  refine x_aload_n dJ1_values_19 rfl ?_
  refine g_putVal q282 (by simp [rr_u1, hMx, hM]) hM3 dJ1_values_20 ?_
  refine x_aload_n dJ1_values_23 rfl ?_
  refine gp_aret rfl (Or.inl ⟨_, rfl⟩) dJ1_values_24 (by omega) (by omega) ?_
  exact ⟨rfl, rfl, rfl⟩
theorem jc_peinit {t : Nat} {r : Option Nat} (ht : K t = 20) (ht3 : 300 ≤ t) (hM : K M = 16) : gW G yJ22_init cJ22_init 3 (none) 1 0 0 [vR (some t), vR (some M), vR r] (K, N, I, R) nx (gEw (K, N, rr_u2 I t 2 (I M 5), rr_u2 (rr_u2 (rr_u2 R t 3 (some M)) t 1 none) t 0 r) nx) := by
  refine gW.of (by decide) rfl (Nat.le_of_ble_eq_true rfl) ?_
  refine x_ls (ls2 := [some (vR (some t)), some (vR (some M)), some (vR r)]) rfl ?_
  refine x_aload_n dJ22_init_0 rfl ?_
  refine x_aload_n dJ22_init_1 rfl ?_
  refine g_putR 3 (ci := 20) (kf := 3) rfl (by decide) (by decide) rfl rfl q1120 rfl (by first | assumption | grind) (by first | assumption | omega) (Or.inr ⟨rfl, rfl, rfl⟩) dJ22_init_2 ?_
  refine x_aload_n dJ22_init_5 rfl ?_
  refine x_oinit q1116 q197 q198 (by decide) (Nat.le_of_ble_eq_true rfl) dJ22_init_6 ?_
  refine x_aload_n dJ22_init_9 rfl ?_
  refine x_aload_n dJ22_init_10 rfl ?_
  refine g_getIN 5 (ci := 16) (kf := 5) rfl (by decide) (by decide) rfl rfl q280 rfl (by first | assumption | grind) dJ22_init_11 ?_
  refine g_putI 2 (ci := 20) (kf := 2) rfl (by decide) (by decide) rfl rfl q1119 rfl (by first | assumption | grind) (by first | assumption | omega) (Or.inl rfl) (rr_nar_i _) dJ22_init_14 ?_
  refine x_aload_n dJ22_init_17 rfl ?_
  refine x_null dJ22_init_18 ?_
  refine g_putR 1 (ci := 20) (kf := 1) rfl (by decide) (by decide) rfl rfl q1118 rfl (by first | assumption | grind) (by first | assumption | omega) (Or.inl rfl) dJ22_init_19 ?_
  refine x_aload_n dJ22_init_22 rfl ?_
  refine x_aload_n dJ22_init_23 rfl ?_
  refine g_putR 0 (ci := 20) (kf := 0) rfl (by decide) (by decide) rfl rfl q1117 rfl (by first | assumption | grind) (by first | assumption | omega) (Or.inl rfl) dJ22_init_24 ?_
  refine gw_vret rfl dJ22_init_27 (by omega) (by omega) ?_
  exact ⟨rfl, rfl⟩
theorem jc_viinit {t : Nat} {r : Option Nat} (ht : K t = 20) (ht3 : 300 ≤ t) (hM : K M = 16) : gW G yJ24_init cJ24_init 3 (none) 2 0 0 [vR (some t), vR (some M), vR r] (K, N, I, R) nx (gEw (K, N, rr_u2 I t 2 (I M 5), rr_u2 (rr_u2 (rr_u2 R t 3 (some M)) t 1 none) t 0 r) nx) := by
  refine gW.of (by decide) rfl (Nat.le_of_ble_eq_true rfl) ?_
  refine x_ls (ls2 := [some (vR (some t)), some (vR (some M)), some (vR r)]) rfl ?_
  refine x_aload_n dJ24_init_0 rfl ?_
  refine x_aload_n dJ24_init_1 rfl ?_
  refine x_aload_n dJ24_init_2 rfl ?_
  refine g_ci2 (jc_peinit ht ht3 hM) fJ22_init q1146 (by decide) (Nat.le_of_ble_eq_true rfl) (by omega) (by omega) dJ24_init_3 (fun h2 n2 hp => ?_)
  obtain ⟨rfl, rfl⟩ := hp
  refine gw_vret rfl dJ24_init_6 (by omega) (by omega) ?_
  exact ⟨rfl, rfl⟩
theorem jc_iterator {V : Nat} (hT : Tm K N I R κ M L c) (hV : K V = 19) (hVM : R V 0 = some M) : gP G yJ20_iterator cJ20_iterator 1 ((some (FieldType.object "java/util/Iterator"))) 3 1 4 [vR (some V)] (K, N, I, R) nx (gEq (vR (some nx)) (rr_u1 K nx 20, rr_u1 N nx 0, rr_u2 (rr_u1 I nx (fun _ => 0)) nx 2 (I M 5), rr_u2 (rr_u2 (rr_u2 (rr_u1 R nx (fun _ => none)) nx 3 (some M)) nx 1 none) nx 0 L[0]?) (nx + 1)) := by
  have hM := hT.1.1
  refine gP.of (by decide) rfl (Nat.le_of_ble_eq_true rfl) ?_
  refine x_ls (ls2 := [some (vR (some V))]) rfl ?_
  refine x_live (fun hlv h3 => ?_)
  have hlv : ∀ x, K x ≠ 0 → x < nx := hlv
  have hMx : M ≠ nx := by have := hlv M (by omega); omega
  have hVx : V ≠ nx := by have := hlv V (by omega); omega
  have hT2 : Tm (rr_u1 K nx 20) (rr_u1 N nx 0) (rr_u1 I nx (fun _ => 0)) (rr_u1 R nx (fun _ => none)) κ M L c := by
    have ex : ∀ x, K x ≠ 0 → x ≠ nx := fun x hx => by have := hlv x hx; omega
    refine hT.mono (fun x hx => ?_) (fun x hx => ?_) (fun x hx => ?_) ?_ (fun e he => ?_)
    · simp [rr_u1, ex x hx]
    · simp [rr_u1, ex x (by omega)]
    · simp [rr_u1, ex x (by omega)]
    · simp [rr_u1, hMx]
    · have := ex e (by have := (hT.2.2.1 e he).1; omega)
      simp [rr_u1, this]
  refine g_new 20 rfl (by decide) q1140 q1141 q174 (by omega) (by omega) dJ20_iterator_0 ?_
  refine x_dup dJ20_iterator_3 rfl ?_
  refine x_aload_n dJ20_iterator_4 rfl ?_
  refine g_getR 0 (r := some M) (ci := 19) (kf := 0) rfl (by decide) (by decide) rfl rfl q1054 rfl (by simp [rr_u1, hVx, hV]) (by simp [rr_u1, hVx, hVM]) dJ20_iterator_5 ?_
  refine x_aload_n dJ20_iterator_8 rfl ?_
  refine g_getR 0 (r := some M) (ci := 19) (kf := 0) rfl (by decide) (by decide) rfl rfl q1054 rfl (by simp [rr_u1, hVx, hV]) (by simp [rr_u1, hVx, hVM]) dJ20_iterator_9 ?_
  refine g_cv0 (ci := 16) (jc_first hT2) fJ1_getFirstEntry q1142 rfl (by decide) (by simp [rr_u1, hMx, hM]) (by decide) (Nat.le_of_ble_eq_true rfl) (by omega) (by omega) dJ20_iterator_12 (fun v h2 n2 hp => ?_)
  obtain ⟨rfl, rfl, rfl⟩ := hp
  refine g_ci2 (jc_viinit (by simp [rr_u1]) h3 (by simp [rr_u1, hMx, hM])) fJ24_init q1143 (by decide) (Nat.le_of_ble_eq_true rfl) (by omega) (by omega) dJ20_iterator_15 (fun h2 n2 hp => ?_)
  obtain ⟨rfl, rfl⟩ := hp
  refine gp_aret rfl (Or.inl ⟨_, rfl⟩) dJ20_iterator_18 (by omega) (by omega) ?_
  refine ⟨rfl, ?_, rfl⟩
  rw [show rr_u1 I nx (fun _ => 0) M 5 = I M 5 by simp [rr_u1, hMx]]
theorem jc_hasNext {t : Nat} (ht : K t = 20) : gP G yJ22_hasNext cJ22_hasNext 1 ((some FieldType.boolean)) 0 0 0 [vR (some t)] (K, N, I, R) nx (gEq (vI (bi (R t 0 ≠ none))) (K, N, I, R) nx) := by
  refine gP.of (by decide) rfl (Nat.le_of_ble_eq_true rfl) ?_
  refine x_ls (ls2 := [some (vR (some t))]) rfl ?_
  refine x_aload_n dJ22_hasNext_0 rfl ?_
  refine g_getR 0 (r := _) (ci := 20) (kf := 0) rfl (by decide) (by decide) rfl rfl q1117 rfl (by first | assumption | grind) rfl dJ22_hasNext_1 ?_
  refine x_ifnull (t := 11) dJ22_hasNext_4 (by decide) (fun c_4 => ?_) (fun x_4 c_4 => ?_)
  · skip
    refine x_iconst dJ22_hasNext_11 ?_
    refine gp_zret rfl dJ22_hasNext_12 (by first | exact Or.inl rfl | exact Or.inr rfl | exact bi_01 _ | omega) (by omega) (by omega) ?_
    exact ⟨by first | exact rT2 (by rw [c_4]; simp) | exact rF2 (by rw [c_4]; simp), rfl, rfl⟩
  · skip
    refine x_iconst dJ22_hasNext_7 ?_
    refine x_goto (t := 12) dJ22_hasNext_8 (by decide) ?_
    refine gp_zret rfl dJ22_hasNext_12 (by first | exact Or.inl rfl | exact Or.inr rfl | exact bi_01 _ | omega) (by omega) (by omega) ?_
    exact ⟨by first | exact rT2 (by rw [c_4]; simp) | exact rF2 (by rw [c_4]; simp), rfl, rfl⟩
theorem jc_nextEntry {t e i : Nat} (hT : Tm K N I R κ M L c) (ht : K t = 20) (ht3 : 300 ≤ t) (h0 : R t 0 = some e) (hi : L[i]? = some e) (h3 : R t 3 = some M) (h2 : I t 2 = I M 5) : gP G yJ22_nextEntry cJ22_nextEntry 2 ((some (FieldType.object "java/util/TreeMap$Entry"))) 1 0 0 [vR (some t)] (K, N, I, R) nx (gEq (vR (some e)) (K, N, I, rr_u2 (rr_u2 R t 0 L[i + 1]?) t 1 (some e)) nx) := by
  have hM := hT.1.1
  refine gP.of (by decide) rfl (Nat.le_of_ble_eq_true rfl) ?_
  refine x_ls (ls2 := [some (vR (some t)), none]) rfl ?_
  refine x_aload_n dJ22_nextEntry_0 rfl ?_
  refine g_getR 0 (r := some e) (ci := 20) (kf := 0) rfl (by decide) (by decide) rfl rfl q1117 rfl (by first | assumption | grind) (h0) dJ22_nextEntry_1 ?_
  refine x_astore_n dJ22_nextEntry_4 (by decide) ?_
  refine x_aload_n dJ22_nextEntry_5 rfl ?_
  refine x_ifnonnull_y (t := 17) dJ22_nextEntry_6 (by decide) ?_
  refine x_aload_n dJ22_nextEntry_17 rfl ?_
  refine g_getR 3 (r := some M) (ci := 20) (kf := 3) rfl (by decide) (by decide) rfl rfl q1120 rfl (by first | assumption | grind) (h3) dJ22_nextEntry_18 ?_
  refine g_getIN 5 (ci := 16) (kf := 5) rfl (by decide) (by decide) rfl rfl q280 rfl (by first | assumption | grind) dJ22_nextEntry_21 ?_
  refine x_aload_n dJ22_nextEntry_24 rfl ?_
  refine g_getI 2 (ci := 20) (kf := 2) rfl (by decide) (by decide) rfl rfl q1119 rfl (by first | assumption | grind) dJ22_nextEntry_25 ?_
  rw [h2]
  refine x_icmp_same (t := 39) dJ22_nextEntry_28 (by decide) ?_
  refine x_aload_n dJ22_nextEntry_39 rfl ?_
  refine x_aload_n dJ22_nextEntry_40 rfl ?_
  refine g_cs1 (jc_succ hT hi) fJ1_successor q1242 (by decide) (Nat.le_of_ble_eq_true rfl) (by omega) (by omega) dJ22_nextEntry_41 (fun v h2 n2 hp => ?_)
  obtain ⟨rfl, rfl, rfl⟩ := hp
  refine g_putR 0 (ci := 20) (kf := 0) rfl (by decide) (by decide) rfl rfl q1117 rfl (by first | assumption | grind) (by first | assumption | omega) (Or.inl rfl) dJ22_nextEntry_44 ?_
  refine x_aload_n dJ22_nextEntry_47 rfl ?_
  refine x_aload_n dJ22_nextEntry_48 rfl ?_
  refine g_putR 1 (ci := 20) (kf := 1) rfl (by decide) (by decide) rfl rfl q1118 rfl (by first | assumption | grind) (by first | assumption | omega) (Or.inl rfl) dJ22_nextEntry_49 ?_
  refine x_aload_n dJ22_nextEntry_52 rfl ?_
  refine gp_aret rfl (Or.inl ⟨_, rfl⟩) dJ22_nextEntry_53 (by omega) (by omega) ?_
  exact ⟨rfl, rfl, rfl⟩
theorem jc_next {t e i : Nat} {r : Option Nat} (hT : Tm K N I R κ M L c) (ht : K t = 20) (ht3 : 300 ≤ t) (h0 : R t 0 = some e) (hi : L[i]? = some e) (h3 : R t 3 = some M) (h2 : I t 2 = I M 5) (hr : R e 1 = r) : gP G yJ24_next cJ24_next 1 ((some (FieldType.object "java/lang/Object"))) 2 0 0 [vR (some t)] (K, N, I, R) nx (gEq (vR r) (K, N, I, rr_u2 (rr_u2 R t 0 L[i + 1]?) t 1 (some e)) nx) := by
  have he := List.mem_of_getElem? hi
  have hKe := (hT.2.2.1 e he).1
  have hte : e ≠ t := by intro q; rw [q] at hKe; omega
  refine gP.of (by decide) rfl (Nat.le_of_ble_eq_true rfl) ?_
  refine x_ls (ls2 := [some (vR (some t))]) rfl ?_
  refine x_aload_n dJ24_next_0 rfl ?_
  refine g_cU0 (ci := 20) (jc_nextEntry hT ht ht3 h0 hi h3 h2) "java/util/TreeMap$PrivateEntryIterator" q1240 q1241 q1250 q1251 (Or.inl q1252) q1240 q172 q1241 (by decide +kernel) rfl (by decide) (by first | assumption | grind) (by decide) (Nat.le_of_ble_eq_true rfl) (by omega) (by omega) dJ24_next_1 (fun v h2 n2 hp => ?_)
  obtain ⟨rfl, rfl, rfl⟩ := hp
  refine g_getR 1 (r := _) (ci := 17) (kf := 1) rfl (by decide) (by decide) rfl rfl q896 rfl (by first | assumption | grind) rfl dJ24_next_4 ?_
  refine gp_aret rfl (Or.inl ⟨_, rfl⟩) dJ24_next_7 (by omega) (by omega) ?_
  refine ⟨?_, rfl, rfl⟩
  rw [rr_u2_ne _ _ (fun q => hte q.1), rr_u2_ne _ _ (fun q => hte q.1), hr]
end TM
