/-! RULES 2: making of objects and arrays, references in arrays, casts, compares of references, statics -/
set_option maxRecDepth 100000
theorem rr_S_new {A : Nat → Prop} {H0 H H1 : Heap} {locs : List Loc} (hS : va_S A H0 H locs) (z : H1.size = H.size + 1) (o : ∀ q, q < H.size → H1[q]? = H[q]?) : va_S A H0 H1 locs := ⟨Nat.le_trans hS.1 (by omega), fun x h1 h2 => (o x (Nat.lt_of_lt_of_le h1 hS.1)).trans (hS.2.1 x h1 h2), hS.2.2⟩
theorem rr_dft (G : rr_G) (ty : FieldType) (h : rr_fk ty ≠ 3) : rr_fv G ty 0 none = defaultValue ty := by
  cases ty <;> first | rfl | exact absurd rfl h
theorem rr_tk : ∀ (ci : Nat) (q : vw_C), rr_cl[ci]? = some q → ∀ j, j < q.2.2 → rr_fk (rr_ty ci j) ≠ 3 := by
  intro ci q h
  match ci, h with
  | 0, h => cases h; decide
  | 1, h => cases h; decide
  | 2, h => cases h; decide
  | 3, h => cases h; decide
  | 4, h => cases h; decide
  | 5, h => cases h; decide
  | 6, h => cases h; decide
  | 7, h => cases h; decide
  | 8, h => cases h; decide
  | 9, h => cases h; decide
  | 10, h => cases h; decide
  | 11, h => cases h; decide
  | 12, h => cases h; decide
  | 13, h => cases h; decide
  | 14, h => cases h; decide
  | 15, h => cases h; decide
  | 16, h => cases h; decide
  | 17, h => cases h; decide
  | 18, h => cases h; decide
  | 19, h => cases h; decide
  | 20, h => cases h; decide
  | 21, h => cases h; decide
  | 22, h => cases h; decide
  | 23, h => cases h; decide
  | k + 24, h => simp [rr_cl] at h
theorem rr_OB_to {a n : Nat} {cC : ClassId} {iS : Nat → Nat} {H : Heap} {f g : Nat → Value} (h : t_OB a cC n iS H f) (hfg : ∀ j, j < n → f j = g j) : t_OB a cC n iS H g := by
  obtain ⟨cell, q1, q2, q3, q4⟩ := h
  exact ⟨cell, q1, q2, q3, fun j hj => by rw [q4 j hj, hfg j hj]⟩
section RULES
variable {G : rr_G} {y : MethodName} {cc : ByteArray} {nL : Nat} {ret : Option FieldType} {d mc ms : Nat} {Post : Option rr_V → rr_H → Nat → Prop} {Q : List Frame → Array Value → State → State → Prop} {pc : Nat} {ls : List (Option rr_V)} {st : List rr_V} {h : rr_H} {nx cu su : Nat}
theorem x_new (ci : Nat) {idx N : Nat} {C : String} {T : u_T} (hc : rr_cl[ci]? = some (C, T, N)) (h0 : ci ≠ 0) (hq : Cond.classLink y.cls idx C ∈ lw_all) (hi : Cond.instantiable C N ∈ lw_all) (hn : Cond.initialized C ∈ lw_all) (hmc : cu + 1 ≤ mc) (hms : su + N ≤ ms) (dg : decode cc pc = .ok (.new idx, 3))
    (k : rr_R G y cc nL ret d mc ms Q (pc + 3) ls (vR (some nx) :: st) (rr_nw h nx ci 0 (fun _ => 0) (fun _ => none)) (nx + 1) (cu + 1) (su + N)) : rr_R G y cc nL ret d mc ms Q pc ls st h nx cu su := by
  intro p e s m args below meth c H locs la hC hr hS hL
  have hts := hC.2.2.2.2.2.1
  have hKn := hC.2.2.2.2.2.2.2.2.1.1.1 ci _ hc
  obtain ⟨k1, k2, k3, k4, k5⟩ := rr_ckn ci _ hc
  refine W.newcK hC.1 hC.2.1 hC.2.2.2.2.1 (hts _ hq) (hts _ hi) (hts _ hn) rfl dg hmc hms hKn.2.1 (rr_ad_nx G hr).symm fun H1 kC hkC e1 z1 o1 => ?_
  rw [rr_ad_nx G hr] at z1 o1
  have hb := u_born (rr_ty ci) hts k1 hKn hkC e1 k2
  refine k p e s m args below meth c H1 locs la hC (hr.new z1 o1 ?_) (rr_S_new hS z1 o1) hL
  unfold rr_cel
  have hk : (rr_nw h nx ci 0 (fun _ => 0) (fun _ => none)).1 nx = ci := by simp [rr_nw, rr_u1]
  rw [hk, if_pos k5, k4]
  refine rr_OB_to hb (fun j hj => ?_)
  rw [← rr_dft G _ (rr_tk ci _ hc j hj)]
  simp [rr_nw, rr_u1]
theorem x_newa (t n : Nat) {z : Int} {aty : ArrayType} {ty : FieldType} (hty : newarray.typeOf aty = ty) (ht : rr_al[t]? = some ty) (hf : rr_fk ty = 0) (hq : Cond.arrayClass ty ∈ lw_all) (hz : z = (n : Int)) (hn : n ≤ 100000) (hmc : cu + 1 ≤ mc) (hms : su + n ≤ ms) (dg : decode cc pc = .ok (.newarray aty, 2))
    (k : rr_R G y cc nL ret d mc ms Q (pc + 2) ls (vR (some nx) :: st) (rr_nw h nx (64 + t) n (fun _ => 0) (fun _ => none)) (nx + 1) (cu + 1) (su + n)) : rr_R G y cc nL ret d mc ms Q pc ls (vI z :: st) h nx cu su := by
  intro p e s m args below meth c H locs la hC hr hS hL
  have hts := hC.2.2.2.2.2.1
  subst hty
  subst hz
  have hN : (Int32.ofInt (n : Int)).toNatClampNeg = n := by rw [rr_clamp (by omega) (by omega)]; omega
  have hb : n * componentBytes (newarray.typeOf aty) ≤ 536870912 := by
    have : componentBytes (newarray.typeOf aty) ≤ 8 := by cases aty <;> decide
    have := Nat.mul_le_mul (show n ≤ 100000 from hn) this
    omega
  refine va_newaK (N := n) hC.1 hC.2.1 (hts _ hq) rfl dg (n := Int32.ofInt (n : Int)) (rest := st.map (rr_g G)) rfl (by rw [rr_0, rr_lt_iff (by omega) (by omega)]; omega) hN hb hmc hms (rr_ad_nx G hr).symm fun H1 cA e1 z1 o1 hA hcl => ?_
  rw [rr_ad_nx G hr] at z1 o1
  refine k p e s m args below meth c H1 locs la hC (hr.new z1 o1 ?_) (rr_S_new hS z1 o1) hL
  have hra := (hC.2.2.2.2.2.2.2.2.1.1.2 t _ (rr_tys_at G ht)).2
  have hcA : cA = G.2.2.2.2.2 t := by
    have h2 : s.vm.findClass ("[" ++ (newarray.typeOf aty).toString) = some (G.2.2.2.2.2 t) := by
      cases aty <;> exact hra
    exact Option.some.inj (hcl.symm.trans h2)
  unfold rr_cel
  have hk : (rr_nw h nx (64 + t) n (fun _ => 0) (fun _ => none)).1 nx = 64 + t := by simp [rr_nw, rr_u1]
  rw [hk, if_neg (by omega), Nat.add_sub_cancel_left, e1, hcA]
  simp only [rr_nw, rr_u1, if_true]
  rw [rr_et_of ht, rr_dft G _ (by rw [hf]; decide)]
theorem x_anew (t n : Nat) {idx : Nat} {z : Int} {C : String} (ht : rr_al[t]? = some (.object C)) (hq : Cond.classLink y.cls idx C ∈ lw_all) (ho : Cond.arrayOver (.object C) ∈ lw_tbl) (hz : z = (n : Int)) (hn : n ≤ 100000) (hmc : cu + 1 ≤ mc) (hms : su + n ≤ ms) (dg : decode cc pc = .ok (.anewarray idx, 3))
    (k : rr_R G y cc nL ret d mc ms Q (pc + 3) ls (vR (some nx) :: st) (rr_nw h nx (64 + t) n (fun _ => 0) (fun _ => none)) (nx + 1) (cu + 1) (su + n)) : rr_R G y cc nL ret d mc ms Q pc ls (vI z :: st) h nx cu su := by
  intro p e s m args below meth c H locs la hC hr hS hL
  have hts := hC.2.2.2.2.2.1
  subst hz
  have hN : (Int32.ofInt (n : Int)).toNatClampNeg = n := by rw [rr_clamp (by omega) (by omega)]; omega
  refine W.anew hC.1 hC.2.1 hC.2.2.2.2.1 (hts _ hq) (show (Cond.before _ args s) = true from hC.2.2.2.2.2.2.2.2.1.2.1 _ (rr_x ho rfl)) rfl dg (n := Int32.ofInt (n : Int)) (rest := st.map (rr_g G)) rfl (by rw [rr_0, rr_lt_iff (by omega) (by omega)]; omega) (by rw [hN]; omega) hmc (by rw [hN]; exact hms) fun cA kA comp f1 f2 f3 f4 => ?_
  rw [hN]
  generalize hH1 : H.push ({ cls := cA, slots := Array.replicate n .null, vm := .none } : Cell) = H1
  have z1 : H1.size = H.size + 1 := by rw [← hH1, Array.size_push]
  have e1 : H1[H.size]? = some (arrV cA n (fun _ => .null)) := by rw [← hH1, Array.getElem?_push_size, ← arrV_new]
  have o1 : ∀ q : Nat, q < H.size → H1[q]? = H[q]? := fun q hq => by rw [← hH1, Array.getElem?_push, if_neg (Nat.ne_of_lt hq)]
  have hh := rr_ad_nx G hr
  have kk := k p e s m args below meth c H1 locs la hC (hr.new z1 o1 ?_) (rr_S_new hS z1 o1) hL
  · have e2 : (vR (some nx) :: st).map (rr_g G) = .ref H.size :: st.map (rr_g G) := by rw [← hh]; rfl
    rw [e2] at kk
    exact kk
  · have hra := (hC.2.2.2.2.2.2.2.2.1.1.2 t _ (rr_tys_at G ht)).2
    obtain ⟨kA', comp', g1, g2, g3, g4⟩ := hra
    have hcA : cA = G.2.2.2.2.2 t := Option.some.inj (f1.symm.trans g4)
    unfold rr_cel
    have hk : (rr_nw h nx (64 + t) n (fun _ => 0) (fun _ => none)).1 nx = 64 + t := by simp [rr_nw, rr_u1]
    rw [hk, if_neg (by omega), Nat.add_sub_cancel_left, hh, e1, hcA]
    simp only [rr_nw, rr_u1, if_true]
    rw [rr_et_of ht]
    rfl
theorem x_anewA (n : Nat) {idx : Nat} {z : Int} (hq : Cond.classLink y.cls idx "[I" ∈ lw_all) (ho : Cond.arrayOver (.array .int) ∈ lw_tbl) (hz : z = (n : Int)) (hn : n ≤ 100000) (hmc : cu + 1 ≤ mc) (hms : su + n ≤ ms) (dg : decode cc pc = .ok (.anewarray idx, 3))
    (k : rr_R G y cc nL ret d mc ms Q (pc + 3) ls (vR (some nx) :: st) (rr_nw h nx 74 n (fun _ => 0) (fun _ => none)) (nx + 1) (cu + 1) (su + n)) : rr_R G y cc nL ret d mc ms Q pc ls (vI z :: st) h nx cu su := by
  intro p e s m args below meth c H locs la hC hr hS hL
  have hts := hC.2.2.2.2.2.1
  subst hz
  have hN : (Int32.ofInt (n : Int)).toNatClampNeg = n := by rw [rr_clamp (by omega) (by omega)]; omega
  refine W.anewA (t := .int) hC.1 hC.2.1 hC.2.2.2.2.1 (hts _ hq) (show (Cond.before _ args s) = true from hC.2.2.2.2.2.2.2.2.1.2.1 _ (rr_x ho rfl)) rfl dg (n := Int32.ofInt (n : Int)) (rest := st.map (rr_g G)) rfl (by rw [rr_0, rr_lt_iff (by omega) (by omega)]; omega) (by rw [hN]; omega) hmc (by rw [hN]; exact hms) fun cA kA comp f1 f2 f3 f4 => ?_
  rw [hN]
  generalize hH1 : H.push ({ cls := cA, slots := Array.replicate n .null, vm := .none } : Cell) = H1
  have z1 : H1.size = H.size + 1 := by rw [← hH1, Array.size_push]
  have e1 : H1[H.size]? = some (arrV cA n (fun _ => .null)) := by rw [← hH1, Array.getElem?_push_size, ← arrV_new]
  have o1 : ∀ q : Nat, q < H.size → H1[q]? = H[q]? := fun q hq => by rw [← hH1, Array.getElem?_push, if_neg (Nat.ne_of_lt hq)]
  have hh := rr_ad_nx G hr
  have kk := k p e s m args below meth c H1 locs la hC (hr.new z1 o1 ?_) (rr_S_new hS z1 o1) hL
  · have e2 : (vR (some nx) :: st).map (rr_g G) = .ref H.size :: st.map (rr_g G) := by rw [← hh]; rfl
    rw [e2] at kk
    exact kk
  · have hra : s.vm.findClass ("[" ++ (FieldType.array .int).toString) = some (G.2.2.2.2.2 10) := (hC.2.2.2.2.2.2.2.2.1.1.2 10 _ (rr_tys_at G rfl)).2
    have hcA : cA = G.2.2.2.2.2 10 := Option.some.inj (f1.symm.trans hra)
    unfold rr_cel
    have hk : (rr_nw h nx 74 n (fun _ => 0) (fun _ => none)).1 nx = 74 := by simp [rr_nw, rr_u1]
    rw [hk, if_neg (by omega), hh, e1, hcA]
    simp only [rr_nw, rr_u1, if_true]
    rfl
/-- a reference is written into an array, in the picture -/
theorem rr_arr_setR {H H' : Heap} {x t n : Nat} {i : Int} {r : Option Nat} (hr : rr_rel G h nx H) (hx : h.1 x = 64 + t) (hx3 : 300 ≤ x) (hf : rr_fk (rr_et t) = 2) (hi : 0 ≤ i ∧ i < (n : Int))
    (e1 : H'[rr_ad G x]? = some ((arrV (G.2.2.2.2.2 t) (h.2.1 x) (fun j => rr_fv G (rr_et t) (h.2.2.1 x j) (h.2.2.2 x j))).setSlot i.toNat (va_rf (r.map (rr_ad G))))) (z : H'.size = H.size) (oq : ∀ q, q ≠ rr_ad G x → H'[q]? = H[q]?) : rr_rel G (rr_sR h x i r) nx H' := by
  refine hr.set hx3 (by rw [hx]; omega) z oq rfl rfl (fun _ _ => rfl) ?_ ?_
  · intro q hq
    funext j
    exact rr_u2_ne _ _ (fun z => hq z.1)
  · have hx' : (rr_sR h x i r).1 x = 64 + t := hx
    unfold rr_cel
    rw [hx', if_neg (by omega), Nat.add_sub_cancel_left, e1, arrV_store]
    show _ = some (arrV _ (h.2.1 x) _)
    congr 2
    funext j
    rw [rr_fv_r G hf]
    unfold updV
    by_cases hj : j = i.toNat
    · rw [if_pos hj]
      have : (j : Int) = i := by omega
      show _ = va_rf (Option.map (rr_ad G) (rr_u2 h.2.2.2 x i r x j))
      rw [this, rr_u2_same]
    · rw [if_neg hj]
      show _ = va_rf (Option.map (rr_ad G) (rr_u2 h.2.2.2 x i r x j))
      rw [rr_u2_ne _ _ (fun q => hj (by omega))]
      exact rr_fv_r G hf _ _
theorem x_aastN {x n t : Nat} {i : Int} {C : String} (hx : h.1 x = 64 + t) (ht : rr_al[t]? = some (.object C)) (hx3 : 300 ≤ x) (hn : h.2.1 x = n) (hi : 0 ≤ i ∧ i < (n : Int)) (h3 : i < 2147483648) (dg : decode cc pc = .ok (.aastore, 1)) (k : rr_R G y cc nL ret d mc ms Q (pc + 1) ls st (rr_sR h x i none) nx cu su) : rr_R G y cc nL ret d mc ms Q pc ls (vR none :: vI i :: vR (some x) :: st) h nx cu su := by
  intro p e s m args below meth c H locs la hC hr hS hL
  have hcell := hr.arr hx
  obtain ⟨i1, i2, i3, i4⟩ := rr_idx hi h3
  refine va_WaastN (C := C) hC.1 hC.2.1 hcell (rr_aof hC.2.2.2.2.2.2.2.2.1 ht _ _) (fun q => by cases q) (by rw [arrV_size, hn]; exact i1) rfl rfl dg fun H' e1 z oq => ?_
  rw [i2] at e1
  exact k p e s m args below meth c H' _ la hC (rr_arr_setR hr hx hx3 (by rw [rr_et_of ht]; rfl) hi e1 z oq) (hS.put z oq (hr.own hx3 (by rw [hx]; omega))) hL
theorem x_aast {x n t v ci N : Nat} {i : Int} {C D : String} {T : u_T} (hx : h.1 x = 64 + t) (ht : rr_al[t]? = some (.object C)) (hx3 : 300 ≤ x) (hn : h.2.1 x = n) (hi : 0 ≤ i ∧ i < (n : Int)) (h3 : i < 2147483648) (hv : h.1 v = ci) (hc : rr_cl[ci]? = some (D, T, N)) (h0 : ci ≠ 0) (hcd : D = C ∨ Cond.castable D C ∈ lw_tbl) (dg : decode cc pc = .ok (.aastore, 1)) (k : rr_R G y cc nL ret d mc ms Q (pc + 1) ls st (rr_sR h x i (some v)) nx cu su) : rr_R G y cc nL ret d mc ms Q pc ls (vR (some v) :: vI i :: vR (some x) :: st) h nx cu su := by
  intro p e s m args below meth c H locs la hC hr hS hL
  have hcell := hr.arr hx
  obtain ⟨i1, i2, i3, i4⟩ := rr_idx hi h3
  obtain ⟨cellV, g1, g2, g3, -⟩ := hr.obj hc h0 hv
  have hvm := hC.2.2.2.2.2.2.2.2.1
  have hcls := (hvm.1.1 ci _ hc).2
  obtain ⟨kA, comp, k1, k2, k3, -⟩ := (hvm.1.2 t _ (rr_tys_at G ht)).2
  obtain ⟨kC, hkC, hkk⟩ := hcls.2
  obtain ⟨kcomp, hkcomp, -⟩ := Vm.findClass_spec k3
  have hasg : s.vm.assignable (G.2.2.2.1 ci) comp = true := by
    rcases hcd with rfl | hcd
    · have : comp = G.2.2.2.1 ci := Option.some.inj (k3.symm.trans hcls.1)
      rw [this]
      exact va_asg _ _
    · obtain ⟨c0, t0, f1, f2, f3⟩ := Cond.castable_spec (va_Nw.use (A := args) rfl (hvm.2.1 _ (rr_x hcd rfl)))
      cases hcls.1.symm.trans f1
      cases k3.symm.trans f2
      exact f3
  refine W.aast hC.1 hC.2.1 hcell (fun q h => by cases h) (fun h => by cases h) k1 k2 rfl hkcomp ⟨fun q => i1 (Or.inl q), by rw [i2, arrV_size, hn]; exact i3⟩ g1 (fun q h => by rw [g3] at h; cases h) (by rw [g2]; exact hkC) (by rw [g2]; exact hasg) rfl rfl dg fun H' e1 z oq => ?_
  rw [i2] at e1
  exact k p e s m args below meth c H' _ la hC (rr_arr_setR hr hx hx3 (by rw [rr_et_of ht]; rfl) hi e1 z oq) (hS.put z oq (hr.own hx3 (by rw [hx]; omega))) hL
/-- an int array into an array of such -/
theorem x_aastA {x n v : Nat} {i : Int} (ho : Cond.arrayOver (.array .int) ∈ lw_tbl) (hx : h.1 x = 74) (hx3 : 300 ≤ x) (hn : h.2.1 x = n) (hi : 0 ≤ i ∧ i < (n : Int)) (h3 : i < 2147483648) (hv : h.1 v = 64) (dg : decode cc pc = .ok (.aastore, 1)) (k : rr_R G y cc nL ret d mc ms Q (pc + 1) ls st (rr_sR h x i (some v)) nx cu su) : rr_R G y cc nL ret d mc ms Q pc ls (vR (some v) :: vI i :: vR (some x) :: st) h nx cu su := by
  intro p e s m args below meth c H locs la hC hr hS hL
  have hcell := hr.arr (t := 10) hx
  have hcv := hr.arr (t := 0) hv
  obtain ⟨i1, i2, i3, i4⟩ := rr_idx hi h3
  have hvm := hC.2.2.2.2.2.2.2.2.1
  have ha1 : s.vm.findClass ("[" ++ (FieldType.array .int).toString) = some (G.2.2.2.2.2 10) := (hvm.1.2 10 _ (rr_tys_at G rfl)).2
  have ha0 : s.vm.findClass ("[" ++ (FieldType.int).toString) = some (G.2.2.2.2.2 0) := (hvm.1.2 0 _ (rr_tys_at G rfl)).2
  obtain ⟨comp, c1, k1, o1, o2, o3, o4, o5⟩ := arrayOverA_spec (hvm.2.1 _ (rr_x ho rfl))
  have e10 : c1 = G.2.2.2.2.2 10 := Option.some.inj (o5.symm.trans ha1)
  have e0 : comp = G.2.2.2.2.2 0 := Option.some.inj (o1.symm.trans ha0)
  subst e10
  subst e0
  obtain ⟨kcomp, hkcomp, -⟩ := Vm.findClass_spec o1
  refine W.aast hC.1 hC.2.1 hcell (fun q h => by cases h) (fun h => by cases h) o3 o4 rfl hkcomp ⟨fun q => i1 (Or.inl q), by rw [i2, arrV_size, hn]; exact i3⟩ hcv (fun q h => by cases h) hkcomp (va_asg _ _) rfl rfl dg fun H' e1 z oq => ?_
  rw [i2] at e1
  exact k p e s m args below meth c H' _ la hC (rr_arr_setR (t := 10) hr hx hx3 rfl hi e1 z oq) (hS.put z oq (hr.own hx3 (by rw [hx]; decide))) hL
theorem rr_recv {p : Program} {s : State} {m : MethodId} {args : Array Value} {meth : Method} {c : Code} {H : Heap} {x ci N : Nat} {C : String} {T : u_T} (hC : rr_C G y cc nL ret p s m args meth c) (hr : rr_rel G h nx H) (hc : rr_cl[ci]? = some (C, T, N)) (h0 : ci ≠ 0) (hx : h.1 x = ci) : ∃ cell : Cell, H[rr_ad G x]? = some cell ∧ cell.vm.isStatics = false ∧ s.vm.findClass C = some cell.cls := by
  obtain ⟨cell, q1, q2, q3, q4⟩ := hr.obj hc h0 hx
  obtain ⟨hS1, hfc, -⟩ := hC.2.2.2.2.2.2.2.2.1.1.1 ci _ hc
  exact ⟨cell, q1, by rw [q3]; rfl, by rw [q2]; exact hfc⟩
theorem x_castN {idx : Nat} (dg : decode cc pc = .ok (.checkcast idx, 3)) (k : rr_R G y cc nL ret d mc ms Q (pc + 3) ls (vR none :: st) h nx cu su) : rr_R G y cc nL ret d mc ms Q pc ls (vR none :: st) h nx cu su := fun p e s m args below meth c H locs la hC hr hS hL => lv_castN hC.1 hC.2.1 dg (k p e s m args below meth c H locs la hC hr hS hL)
theorem x_cast {idx x ci N : Nat} {C nm : String} {T : u_T} (hc : rr_cl[ci]? = some (C, T, N)) (h0 : ci ≠ 0) (hx : h.1 x = ci) (hq : Cond.classLink y.cls idx nm ∈ lw_all) (hcd : C = nm ∨ Cond.castable C nm ∈ lw_tbl) (dg : decode cc pc = .ok (.checkcast idx, 3)) (k : rr_R G y cc nL ret d mc ms Q (pc + 3) ls (vR (some x) :: st) h nx cu su) : rr_R G y cc nL ret d mc ms Q pc ls (vR (some x) :: st) h nx cu su := by
  intro p e s m args below meth c H locs la hC hr hS hL
  have kk := k p e s m args below meth c H locs la hC hr hS hL
  have hts := hC.2.2.2.2.2.1
  have hrv := rr_recv hC hr hc h0 hx
  rcases hcd with rfl | hcd
  · exact va_castE hC.1 hC.2.1 hC.2.2.2.2.1 (hts _ hq) hrv dg kk
  · exact va_castY hC.1 hC.2.1 hC.2.2.2.2.1 (hts _ hq) (hC.2.2.2.2.2.2.2.2.1.2.1 _ (rr_x hcd rfl)) hrv dg kk
/-- references are alike just if the handles are -/
theorem rr_ad_inj {H : Heap} (hr : rr_rel G h nx H) {a b : Option Nat} (ha : ∀ x, a = some x → h.1 x ≠ 0 ∧ 300 ≤ x) (hb : ∀ x, b = some x → h.1 x ≠ 0 ∧ 300 ≤ x) : a.map (rr_ad G) = b.map (rr_ad G) ↔ a = b := by
  constructor
  · intro q
    cases a with
    | none => cases b with
      | none => rfl
      | some y => simp at q
    | some x => cases b with
      | none => simp at q
      | some y =>
        simp at q
        by_cases hxy : x = y
        · rw [hxy]
        · exact absurd q (hr.ne (hb y rfl).2 (ha x rfl).1 hxy)
  · intro q; rw [q]
theorem x_acmp_eq {a b : Option Nat} {o : Int} {t : Nat} (ha : ∀ x, a = some x → h.1 x ≠ 0 ∧ 300 ≤ x) (hb : ∀ x, b = some x → h.1 x ≠ 0 ∧ 300 ≤ x) (dg : decode cc pc = .ok (.if_acmp .eq o, 3)) (ht : (pc : Int) + o = (t : Int)) (kt : a = b → rr_R G y cc nL ret d mc ms Q t ls st h nx cu su) (kf : ¬ a = b → rr_R G y cc nL ret d mc ms Q (pc + 3) ls st h nx cu su) : rr_R G y cc nL ret d mc ms Q pc ls (vR b :: vR a :: st) h nx cu su := by
  intro p e s m args below meth c H locs la hC hr hS hL
  have hi := rr_ad_inj hr ha hb
  exact lv_acmp_eq (rx := a.map (rr_ad G)) (ry := b.map (rr_ad G)) hC.1 hC.2.1 dg ht (fun q => kt (hi.mp q) p e s m args below meth c H locs la hC hr hS hL) (fun q => kf (fun z => q (hi.mpr z)) p e s m args below meth c H locs la hC hr hS hL)
theorem x_acmp_ne {a b : Option Nat} {o : Int} {t : Nat} (ha : ∀ x, a = some x → h.1 x ≠ 0 ∧ 300 ≤ x) (hb : ∀ x, b = some x → h.1 x ≠ 0 ∧ 300 ≤ x) (dg : decode cc pc = .ok (.if_acmp .ne o, 3)) (ht : (pc : Int) + o = (t : Int)) (kt : ¬ a = b → rr_R G y cc nL ret d mc ms Q t ls st h nx cu su) (kf : a = b → rr_R G y cc nL ret d mc ms Q (pc + 3) ls st h nx cu su) : rr_R G y cc nL ret d mc ms Q pc ls (vR b :: vR a :: st) h nx cu su := by
  intro p e s m args below meth c H locs la hC hr hS hL
  have hi := rr_ad_inj hr ha hb
  exact lv_acmp_ne (rx := a.map (rr_ad G)) (ry := b.map (rr_ad G)) hC.1 hC.2.1 dg ht (fun q => kt (fun z => q (hi.mpr z)) p e s m args below meth c H locs la hC hr hS hL) (fun q => kf (hi.mp q) p e s m args below meth c H locs la hC hr hS hL)
theorem x_gets (i : Nat) {idx : Nat} {C n dd ref : String} {v : rr_V} (hi : (rr_sl G)[i]? = some (C, n, dd, v)) (hq : Cond.fieldLink y.cls idx ref n dd ∈ lw_all) (hre : ref = C) (dg : decode cc pc = .ok (.getstatic idx, 3)) (k : rr_R G y cc nL ret d mc ms Q (pc + 3) ls (v :: st) h nx cu su) : rr_R G y cc nL ret d mc ms Q pc ls st h nx cu su := by
  intro p e s m args below meth c H locs la hC hr hS hL
  have hts := hC.2.2.2.2.2.1
  subst hre
  exact va_gets hC.1 hC.2.1 (hC.2.2.2.2.2.2.2.2.2.1.1 _ (List.mem_of_getElem? hi)) hS hC.2.2.2.2.1 (hts _ hq) (fun x hx => hx) dg (k p e s m args below meth c H locs la hC hr hS hL)
theorem x_ldcS (i : Nat) {idx x : Nat} {C tx : String} (hi : rr_kl[i]? = some (C, idx, tx, x)) (hx : x < 300) (hy : y.cls = C) (dg : decode cc pc = .ok (.ldc idx, 2)) (k : rr_R G y cc nL ret d mc ms Q (pc + 2) ls (vR (some x) :: st) h nx cu su) : rr_R G y cc nL ret d mc ms Q pc ls st h nx cu su := by
  intro p e s m args below meth c H locs la hC hr hS hL
  have hz := hC.2.2.2.2.2.2.2.2.1.2.2.1 _ (List.mem_of_getElem? hi)
  have kk := k p e s m args below meth c H locs la hC hr hS hL
  have e2 : (vR (some x) :: st).map (rr_g G) = .ref (G.2.2.1 x) :: st.map (rr_g G) := by
    show rr_g G (vR (some x)) :: _ = _
    simp [rr_g, va_rf, rr_ad, hx]
  rw [e2] at kk
  exact va_ldcS hC.1 hC.2.1 (hy ▸ hC.2.2.2.2.1) hz dg kk
/-- a reference that may be none -/
theorem x_ifnull {r : Option Nat} {o : Int} {t : Nat} (dg : decode cc pc = .ok (.ifnull o, 3)) (ht : (pc : Int) + o = (t : Int)) (kt : r = none → rr_R G y cc nL ret d mc ms Q t ls st h nx cu su) (kf : ∀ x, r = some x → rr_R G y cc nL ret d mc ms Q (pc + 3) ls st h nx cu su) : rr_R G y cc nL ret d mc ms Q pc ls (vR r :: st) h nx cu su := by
  cases r with
  | none => exact x_ifnull_y dg ht (kt rfl)
  | some x => exact x_ifnull_n dg (kf x rfl)
theorem x_ifnonnull {r : Option Nat} {o : Int} {t : Nat} (dg : decode cc pc = .ok (.ifnonnull o, 3)) (ht : (pc : Int) + o = (t : Int)) (kt : ∀ x, r = some x → rr_R G y cc nL ret d mc ms Q t ls st h nx cu su) (kf : r = none → rr_R G y cc nL ret d mc ms Q (pc + 3) ls st h nx cu su) : rr_R G y cc nL ret d mc ms Q pc ls (vR r :: st) h nx cu su := by
  cases r with
  | none => exact x_ifnonnull_n dg (kf rfl)
  | some x => exact x_ifnonnull_y dg ht (kt x rfl)
end RULES
