/-! RULES 4: arraycopy, clone, longs, answers of small types -/
set_option maxRecDepth 100000
def rr_cpy {α : Type} (I : Nat → Int → α) (x z : Nat) (sp dp n : Int) : Nat → Int → α := fun w j => if w = z ∧ dp ≤ j ∧ j < dp + n then I x (sp + (j - dp)) else I w j
theorem rr_nn (z : Int32) (hz : ¬ z < 0) : z.toInt = (z.toNatClampNeg : Int) := by
  have hz0 : (0 : Int) ≤ z.toInt := by
    have := Int32.not_lt.mp hz
    simpa using Int32.le_iff_toInt_le.mp this
  show z.toInt = ((z.toInt.toNat : Nat) : Int)
  omega
theorem rr_S_set {A : Nat → Prop} {H0 H : Heap} {locs L : List Loc} {a : Nat} {cell : Cell} (hS : va_S A H0 H locs) (hA : A a) (hL : ∀ q ∈ L, q.base = a) : va_S A H0 (H.setIfInBounds a cell) (locs ++ L) := by
  refine ⟨by simp; exact hS.1, fun q g1 g2 => ?_, fun q hq => ?_⟩
  · rw [Array.getElem?_setIfInBounds_ne (fun e => g2 (by rw [← e]; exact hA))]
    exact hS.2.1 q g1 g2
  · rcases List.mem_append.mp hq with h | h
    · exact hS.2.2 q h
    · rw [hL q h]; exact hA
section RULES
variable {G : rr_G} {y : MethodName} {cc : ByteArray} {nL : Nat} {ret : Option FieldType} {d mc ms : Nat} {Q : List Frame → Array Value → State → State → Prop} {pc : Nat} {ls : List (Option rr_V)} {st : List rr_V} {h : rr_H} {nx cu su : Nat}
theorem x_cpyI (t : Nat) {x z : Nat} {ty : FieldType} {sp dp n : Int} {idx : Nat} (ht : rr_al[t]? = some ty) (hf : rr_fk ty = 0) (hpr : refKind ty = false) (hq : Cond.methodLink y.cls idx arraycopyName ∈ lw_all) (hnat : Cond.native arraycopyName ∈ lw_all) (hsta : Cond.static arraycopyName ∈ lw_all) (hini : Cond.initialized "java/lang/System" ∈ lw_all) (hx : h.1 x = 64 + t) (hz : h.1 z = 64 + t) (hz3 : 300 ≤ z) (hb : (0 ≤ sp ∧ 0 ≤ dp ∧ 0 ≤ n) ∧ sp + n ≤ (h.2.1 x : Int) ∧ dp + n ≤ (h.2.1 z : Int)) (hlt : (h.2.1 x : Int) < 2147483648 ∧ (h.2.1 z : Int) < 2147483648)
    (hfit : ∀ j, sp ≤ j → j < sp + n → fits ty (.int (Int32.ofInt (h.2.2.1 x j))) = true) (hd : 1 ≤ d) (hw : rr_wd st ≤ 8) (dg : decode cc pc = .ok (.invokestatic idx, 3))
    (k : rr_R G y cc nL ret d mc ms Q (pc + 3) ls st (h.1, h.2.1, rr_cpy h.2.2.1 x z sp dp n, h.2.2.2) nx cu su) : rr_R G y cc nL ret d mc ms Q pc ls (vI n :: vI dp :: vR (some z) :: vI sp :: vR (some x) :: st) h nx cu su := by
  intro p e s m args below meth c H locs la hC hr hS hL
  have hts := hC.2.2.2.2.2.1
  have hvm := hC.2.2.2.2.2.2.2.2.1
  have eI : ∀ w : Nat, (fun j : Nat => rr_fv G (rr_et t) (h.2.2.1 w j) (h.2.2.2 w j)) = fun j : Nat => Value.int (Int32.ofInt (h.2.2.1 w j)) := fun w => by funext j; rw [rr_et_of ht]; exact rr_fv_i G hf _ _
  have hc0 := hr.arr hx
  have hc1 := hr.arr hz
  rw [eI] at hc0 hc1
  obtain ⟨-, k0, hk0, cm0, hkk0⟩ := (hvm.1.2 t _ (rr_tys_at G ht)).1 (h.2.1 x) (fun j => .int (Int32.ofInt (h.2.2.1 x j)))
  obtain ⟨-, k1, hk1, cm1, hkk1⟩ := (hvm.1.2 t _ (rr_tys_at G ht)).1 (h.2.1 z) (fun j => .int (Int32.ofInt (h.2.2.1 z j)))
  have n1 : ¬ Int32.ofInt sp < 0 := by rw [rr_0, rr_lt_iff (by omega) (by omega)]; omega
  have n2 : ¬ Int32.ofInt dp < 0 := by rw [rr_0, rr_lt_iff (by omega) (by omega)]; omega
  have n3 : ¬ Int32.ofInt n < 0 := by rw [rr_0, rr_lt_iff (by omega) (by omega)]; omega
  have m1 : (Int32.ofInt sp).toNatClampNeg = sp.toNat := rr_clamp (by omega) (by omega)
  have m2 : (Int32.ofInt dp).toNatClampNeg = dp.toNat := rr_clamp (by omega) (by omega)
  have m3 : (Int32.ofInt n).toNatClampNeg = n.toNat := rr_clamp (by omega) (by omega)
  intro T hT X
  obtain ⟨vm', X', step⟩ := X.arraycopy hC.1 hC.2.2.2.2.1 (hts _ hq) (hts _ hnat) (hts _ hsta) (hts _ hini) (src := rr_ad G x) (dst := rr_ad G z) (cs := arrV (G.2.2.2.2.2 t) (h.2.1 x) (fun j => .int (Int32.ofInt (h.2.2.1 x j)))) (cd := arrV (G.2.2.2.2.2 t) (h.2.1 z) (fun j => .int (Int32.ofInt (h.2.2.1 z j)))) (srcPos := Int32.ofInt sp) (destPos := Int32.ofInt dp) (n := Int32.ofInt n) (by rw [hT]; exact hc0) (by rw [hT]; exact hc1)
    (fun _ h => by cases h) (fun _ h => by cases h) (fun h => by cases h) (fun h => by cases h) hk0 hk1 hkk0 hkk1 (by simp [hpr]) n1 n2 n3
    (by rw [rr_nn _ n1, rr_nn _ n3, m1, m3, arrV_size]; omega)
    (by rw [rr_nn _ n2, rr_nn _ n3, m2, m3, arrV_size]; omega)
    (fun vm₁ _ i hi => by
      rw [m3] at hi
      have e : (arrV (G.2.2.2.2.2 t) (h.2.1 x) (fun j => Value.int (Int32.ofInt (h.2.2.1 x j)))).slots.getD ((Int32.ofInt sp).toNatClampNeg + i) .null = .int (Int32.ofInt (h.2.2.1 x (sp + i))) := by
        rw [Array.getD_eq_getD_getElem?, m1, arrV_read _ _ (by omega), show ((sp.toNat + i : Nat) : Int) = sp + i by omega]
        rfl
      refine ⟨?_, ?_⟩
      · rw [e]
        exact hfit _ (by omega) (by omega)
      · rw [e]
        exact trivial)
    (g := F0 m pc la ((vI n :: vI dp :: vR (some z) :: vI sp :: vR (some x) :: st).map (rr_g G))) rfl (by rw [hC.2.2.2.1]; exact hL.1.1) (rest := st.map (rr_g G)) rfl (by rw [hC.2.1]; exact dg) (by unfold rr_rm; dsimp only; split <;> omega) (by
      have h9 : nativeFrameWords "java/lang/System" "arraycopy" 5 + 11 ≤ 100 := by decide
      have := rr_wd_eq G st
      show 2 * 0 + _ + _ ≤ 64 * d + 3296
      omega)
  have e1 : copied (arrV (G.2.2.2.2.2 t) (h.2.1 x) (fun j => .int (Int32.ofInt (h.2.2.1 x j)))) (arrV (G.2.2.2.2.2 t) (h.2.1 z) (fun j => .int (Int32.ofInt (h.2.2.1 z j)))) (Int32.ofInt sp) (Int32.ofInt dp) (Int32.ofInt n) = arrV (G.2.2.2.2.2 t) (h.2.1 z) (fun j => .int (Int32.ofInt (rr_cpy h.2.2.1 x z sp dp n z j))) := by
    refine (va_copied (fun v : Int32 => Value.int v) (G.2.2.2.2.2 t) (G.2.2.2.2.2 t) (fun j : Nat => Int32.ofInt (h.2.2.1 x j)) (fun j : Nat => Int32.ofInt (h.2.2.1 z j)) (by rw [m1, m3]; omega)).trans ?_
    congr 1
    funext j
    rw [m1, m2, m3]
    unfold va_cpy rr_cpy
    by_cases hj : dp.toNat ≤ j ∧ j < dp.toNat + n.toNat
    · rw [if_pos hj, if_pos (by omega)]
      show Value.int (Int32.ofInt (h.2.2.1 x ((sp.toNat + (j - dp.toNat) : Nat) : Int))) = _
      rw [show ((sp.toNat + (j - dp.toNat) : Nat) : Int) = sp + ((j : Int) - dp) by omega]
    · rw [if_neg hj, if_neg (by omega)]
  rw [e1] at X' step
  have hl : rr_ad G z < H.size := (Array.getElem?_eq_some_iff.mp hc1).1
  have hown := hr.own hz3 (by rw [hz]; omega)
  have hr' : rr_rel G (h.1, h.2.1, rr_cpy h.2.2.1 x z sp dp n, h.2.2.2) nx (H.setIfInBounds (rr_ad G z) (arrV (G.2.2.2.2.2 t) (h.2.1 z) (fun j => .int (Int32.ofInt (rr_cpy h.2.2.1 x z sp dp n z j))))) := by
    refine hr.set hz3 (by rw [hz]; omega) (by simp) (fun q hq => by rw [Array.getElem?_setIfInBounds_ne (Ne.symm hq)]) rfl rfl ?_ (fun _ _ => rfl) ?_
    · intro w hw
      funext j
      show rr_cpy h.2.2.1 x z sp dp n w j = h.2.2.1 w j
      unfold rr_cpy
      rw [if_neg (fun q => hw q.1)]
    · unfold rr_cel
      show if h.1 z < 64 then _ else _
      rw [hz, if_neg (by omega), Nat.add_sub_cancel_left]
      have : (H.setIfInBounds (rr_ad G z) (arrV (G.2.2.2.2.2 t) (h.2.1 z) (fun j => .int (Int32.ofInt (rr_cpy h.2.2.1 x z sp dp n z j)))))[rr_ad G z]? = some (arrV (G.2.2.2.2.2 t) (h.2.1 z) (fun j => .int (Int32.ofInt (rr_cpy h.2.2.1 x z sp dp n z j)))) := by simp [hl]
      rw [this]
      congr 2
      funext j
      rw [rr_et_of ht]
      exact (rr_fv_i G hf _ _).symm
  obtain ⟨t2, a1, b1⟩ := k p e s m args below meth c _ _ la hC hr' (rr_S_set hS hown (fun q hq => by
    obtain ⟨w, -, hw⟩ := List.mem_map.mp hq
    rw [← hw])) hL ((T.setVm vm').setCell (rr_ad G z) _) (by rw [← hT]; rfl) X'
  exact ⟨t2, step t2 a1, b1⟩
theorem x_cpyR (t : Nat) {x z : Nat} {C : String} {sp dp n : Int} {idx : Nat} (ht : rr_al[t]? = some (.object C)) (hq : Cond.methodLink y.cls idx arraycopyName ∈ lw_all) (hnat : Cond.native arraycopyName ∈ lw_all) (hsta : Cond.static arraycopyName ∈ lw_all) (hini : Cond.initialized "java/lang/System" ∈ lw_all) (hx : h.1 x = 64 + t) (hz : h.1 z = 64 + t) (hz3 : 300 ≤ z) (hb : (0 ≤ sp ∧ 0 ≤ dp ∧ 0 ≤ n) ∧ sp + n ≤ (h.2.1 x : Int) ∧ dp + n ≤ (h.2.1 z : Int)) (hlt : (h.2.1 x : Int) < 2147483648 ∧ (h.2.1 z : Int) < 2147483648)
    (hel : ∀ j v, sp ≤ j → j < sp + n → h.2.2.2 x j = some v → ∃ (ci : Nat) (q : vw_C), rr_cl[ci]? = some q ∧ ci ≠ 0 ∧ h.1 v = ci ∧ (q.1 = C ∨ Cond.castable q.1 C ∈ lw_tbl)) (hd : 1 ≤ d) (hw : rr_wd st ≤ 8) (dg : decode cc pc = .ok (.invokestatic idx, 3))
    (k : rr_R G y cc nL ret d mc ms Q (pc + 3) ls st (h.1, h.2.1, h.2.2.1, rr_cpy h.2.2.2 x z sp dp n) nx cu su) : rr_R G y cc nL ret d mc ms Q pc ls (vI n :: vI dp :: vR (some z) :: vI sp :: vR (some x) :: st) h nx cu su := by
  intro p e s m args below meth c H locs la hC hr hS hL
  have hts := hC.2.2.2.2.2.1
  have hvm := hC.2.2.2.2.2.2.2.2.1
  have eI : ∀ w : Nat, (fun j : Nat => rr_fv G (rr_et t) (h.2.2.1 w j) (h.2.2.2 w j)) = fun j : Nat => va_rf ((h.2.2.2 w j).map (rr_ad G)) := fun w => by funext j; rw [rr_et_of ht]; exact rr_fv_r G rfl _ _
  have hc0 := hr.arr hx
  have hc1 := hr.arr hz
  rw [eI] at hc0 hc1
  obtain ⟨-, k0, hk0, cm0, hkk0⟩ := (hvm.1.2 t _ (rr_tys_at G ht)).1 (h.2.1 x) (fun j => va_rf ((h.2.2.2 x j).map (rr_ad G)))
  obtain ⟨-, k1, hk1, cm1, hkk1⟩ := (hvm.1.2 t _ (rr_tys_at G ht)).1 (h.2.1 z) (fun j => va_rf ((h.2.2.2 z j).map (rr_ad G)))
  have n1 : ¬ Int32.ofInt sp < 0 := by rw [rr_0, rr_lt_iff (by omega) (by omega)]; omega
  have n2 : ¬ Int32.ofInt dp < 0 := by rw [rr_0, rr_lt_iff (by omega) (by omega)]; omega
  have n3 : ¬ Int32.ofInt n < 0 := by rw [rr_0, rr_lt_iff (by omega) (by omega)]; omega
  have m1 : (Int32.ofInt sp).toNatClampNeg = sp.toNat := rr_clamp (by omega) (by omega)
  have m2 : (Int32.ofInt dp).toNatClampNeg = dp.toNat := rr_clamp (by omega) (by omega)
  have m3 : (Int32.ofInt n).toNatClampNeg = n.toNat := rr_clamp (by omega) (by omega)
  intro T hT X
  obtain ⟨vm', X', step⟩ := X.arraycopy hC.1 hC.2.2.2.2.1 (hts _ hq) (hts _ hnat) (hts _ hsta) (hts _ hini) (src := rr_ad G x) (dst := rr_ad G z) (cs := arrV (G.2.2.2.2.2 t) (h.2.1 x) (fun j => va_rf ((h.2.2.2 x j).map (rr_ad G)))) (cd := arrV (G.2.2.2.2.2 t) (h.2.1 z) (fun j => va_rf ((h.2.2.2 z j).map (rr_ad G)))) (srcPos := Int32.ofInt sp) (destPos := Int32.ofInt dp) (n := Int32.ofInt n) (by rw [hT]; exact hc0) (by rw [hT]; exact hc1)
    (fun _ h => by cases h) (fun _ h => by cases h) (fun h => by cases h) (fun h => by cases h) hk0 hk1 hkk0 hkk1 rfl n1 n2 n3
    (by rw [rr_nn _ n1, rr_nn _ n3, m1, m3, arrV_size]; omega)
    (by rw [rr_nn _ n2, rr_nn _ n3, m2, m3, arrV_size]; omega)
    (fun vm₁ hal i hi => by
      rw [m3] at hi
      have e : (arrV (G.2.2.2.2.2 t) (h.2.1 x) (fun j => va_rf ((h.2.2.2 x j).map (rr_ad G)))).slots.getD ((Int32.ofInt sp).toNatClampNeg + i) .null = va_rf ((h.2.2.2 x (sp + i)).map (rr_ad G)) := by
        rw [Array.getD_eq_getD_getElem?, m1, arrV_read _ _ (by omega), show ((sp.toNat + i : Nat) : Int) = sp + i by omega]
        rfl
      rw [e]
      cases hy : h.2.2.2 x (sp + i) with
      | none => exact ⟨rfl, trivial⟩
      | some v =>
        obtain ⟨ci, q, hcq, hci, hv, hcd⟩ := hel (sp + i) v (by omega) (by omega) hy
        obtain ⟨cellV, g1, g2, g3, -⟩ := hr.obj hcq hci hv
        have hcls := (hvm.1.1 ci _ hcq).2
        obtain ⟨kA, comp, r1, r2, r3, -⟩ := (hvm.1.2 t _ (rr_tys_at G ht)).2
        cases hk1.symm.trans r1
        cases hkk1.symm.trans r2
        have hasg : s.vm.assignable (G.2.2.2.1 ci) cm1 = true := by
          rcases hcd with hcd | hcd
          · have h5 := hcls.1
            rw [hcd] at h5
            have : cm1 = G.2.2.2.1 ci := Option.some.inj (r3.symm.trans h5)
            rw [this]
            exact va_asg _ _
          · obtain ⟨c0, t0, f1, f2, f3⟩ := Cond.castable_spec (va_Nw.use (A := args) rfl (hvm.2.1 _ (rr_x hcd rfl)))
            cases hcls.1.symm.trans f1
            cases r3.symm.trans f2
            exact f3
        obtain ⟨kC, hkC, -⟩ := Vm.findClass_spec hcls.1
        obtain ⟨kE, hkE, -⟩ := Vm.findClass_spec r3
        obtain ⟨kC', hkC', -⟩ := hal.2.2 _ _ hkC
        obtain ⟨kE', hkE', -⟩ := hal.2.2 _ _ hkE
        refine ⟨rfl, cellV, (show T.heap[rr_ad G v]? = some cellV by rw [hT]; exact g1), (fun q h => by rw [g3] at h; cases h), ⟨kC', by rw [g2]; exact hkC'⟩, ?_, ?_⟩
        · exact ⟨kE', hkE'⟩
        · show vm₁.assignable _ _ = true
          rw [hal.assignable, g2]
          exact hasg)
    (g := F0 m pc la ((vI n :: vI dp :: vR (some z) :: vI sp :: vR (some x) :: st).map (rr_g G))) rfl (by rw [hC.2.2.2.1]; exact hL.1.1) (rest := st.map (rr_g G)) rfl (by rw [hC.2.1]; exact dg) (by unfold rr_rm; dsimp only; split <;> omega) (by
      have h9 : nativeFrameWords "java/lang/System" "arraycopy" 5 + 11 ≤ 100 := by decide
      have := rr_wd_eq G st
      show 2 * 0 + _ + _ ≤ 64 * d + 3296
      omega)
  have e1 : copied (arrV (G.2.2.2.2.2 t) (h.2.1 x) (fun j => va_rf ((h.2.2.2 x j).map (rr_ad G)))) (arrV (G.2.2.2.2.2 t) (h.2.1 z) (fun j => va_rf ((h.2.2.2 z j).map (rr_ad G)))) (Int32.ofInt sp) (Int32.ofInt dp) (Int32.ofInt n) = arrV (G.2.2.2.2.2 t) (h.2.1 z) (fun j => va_rf ((rr_cpy h.2.2.2 x z sp dp n z j).map (rr_ad G))) := by
    refine (va_copied (fun v : Option Nat => va_rf (v.map (rr_ad G))) (G.2.2.2.2.2 t) (G.2.2.2.2.2 t) (fun j : Nat => h.2.2.2 x j) (fun j : Nat => h.2.2.2 z j) (by rw [m1, m3]; omega)).trans ?_
    congr 1
    funext j
    rw [m1, m2, m3]
    unfold va_cpy rr_cpy
    by_cases hj : dp.toNat ≤ j ∧ j < dp.toNat + n.toNat
    · rw [if_pos hj, if_pos (by omega)]
      show va_rf (Option.map (rr_ad G) (h.2.2.2 x ((sp.toNat + (j - dp.toNat) : Nat) : Int))) = _
      rw [show ((sp.toNat + (j - dp.toNat) : Nat) : Int) = sp + ((j : Int) - dp) by omega]
    · rw [if_neg hj, if_neg (by omega)]
  rw [e1] at X' step
  have hl : rr_ad G z < H.size := (Array.getElem?_eq_some_iff.mp hc1).1
  have hown := hr.own hz3 (by rw [hz]; omega)
  have hr' : rr_rel G (h.1, h.2.1, h.2.2.1, rr_cpy h.2.2.2 x z sp dp n) nx (H.setIfInBounds (rr_ad G z) (arrV (G.2.2.2.2.2 t) (h.2.1 z) (fun j => va_rf ((rr_cpy h.2.2.2 x z sp dp n z j).map (rr_ad G))))) := by
    refine hr.set hz3 (by rw [hz]; omega) (by simp) (fun q hq => by rw [Array.getElem?_setIfInBounds_ne (Ne.symm hq)]) rfl rfl (fun _ _ => rfl) ?_ ?_
    · intro w hw
      funext j
      show rr_cpy h.2.2.2 x z sp dp n w j = h.2.2.2 w j
      unfold rr_cpy
      rw [if_neg (fun q => hw q.1)]
    · unfold rr_cel
      show if h.1 z < 64 then _ else _
      rw [hz, if_neg (by omega), Nat.add_sub_cancel_left]
      have : (H.setIfInBounds (rr_ad G z) (arrV (G.2.2.2.2.2 t) (h.2.1 z) (fun j => va_rf ((rr_cpy h.2.2.2 x z sp dp n z j).map (rr_ad G)))))[rr_ad G z]? = some (arrV (G.2.2.2.2.2 t) (h.2.1 z) (fun j => va_rf ((rr_cpy h.2.2.2 x z sp dp n z j).map (rr_ad G)))) := by simp [hl]
      rw [this]
      congr 2
      funext j
      rw [rr_et_of ht]
      exact (rr_fv_r G rfl _ _).symm
  obtain ⟨t2, a1, b1⟩ := k p e s m args below meth c _ _ la hC hr' (rr_S_set hS hown (fun q hq => by
    obtain ⟨w, -, hw⟩ := List.mem_map.mp hq
    rw [← hw])) hL ((T.setVm vm').setCell (rr_ad G z) _) (by rw [← hT]; rfl) X'
  exact ⟨t2, step t2 a1, b1⟩
/-- an array of whole numbers, cloned -/
theorem x_clone (t : Nat) {x n : Nat} {ty : FieldType} {ad : String} {idx : Nat} (ht : rr_al[t]? = some ty) (hf : rr_fk ty = 0) (had : "[" ++ ty.toString = ad) (hq : Cond.methodLink y.cls idx ⟨ad, "clone", "()Ljava/lang/Object;"⟩ ∈ lw_all) (hsm : Cond.sameMethod ad "java/lang/Object" "clone" "()Ljava/lang/Object;" ∈ lw_all) (hnat : Cond.native ⟨"java/lang/Object", "clone", "()Ljava/lang/Object;"⟩ ∈ lw_all) (hins : Cond.instanceMethod ⟨"java/lang/Object", "clone", "()Ljava/lang/Object;"⟩ ∈ lw_all) (hsl : Cond.selects ad ⟨ad, "clone", "()Ljava/lang/Object;"⟩ ⟨"java/lang/Object", "clone", "()Ljava/lang/Object;"⟩ ∈ lw_all) (hcl : Cond.castable ad "java/lang/Cloneable" ∈ lw_tbl)
    (hx : h.1 x = 64 + t) (hn : h.2.1 x = n) (hfit : ∀ j : Nat, j < n → fits ty (.int (Int32.ofInt (h.2.2.1 x j))) = true) (hra : ∀ U cA, va_RA U cA ty → U.vm.findClass ad = some cA) (hd : 1 ≤ d) (hw : rr_wd st ≤ 8) (hmc : cu + 1 ≤ mc) (hms : su + n ≤ ms) (dg : decode cc pc = .ok (.invokevirtual idx, 3))
    (k : rr_R G y cc nL ret d mc ms Q (pc + 3) ls (vR (some nx) :: st) (rr_nw h nx (64 + t) n (h.2.2.1 x) (fun _ => none)) (nx + 1) (cu + 1) (su + n)) : rr_R G y cc nL ret d mc ms Q pc ls (vR (some x) :: st) h nx cu su := by
  intro p e s m args below meth c H locs la hC hr hS hL
  have hts := hC.2.2.2.2.2.1
  have hvm := hC.2.2.2.2.2.2.2.2.1
  have eI : ∀ w : Nat, (fun j : Nat => rr_fv G (rr_et t) (h.2.2.1 w j) (h.2.2.2 w j)) = fun j : Nat => Value.int (Int32.ofInt (h.2.2.1 w j)) := fun w => by funext j; rw [rr_et_of ht]; exact rr_fv_i G hf _ _
  have hc0 := hr.arr hx
  rw [eI, hn] at hc0
  have hnm : s.vm.findClass ad = some (G.2.2.2.2.2 t) := hra _ _ (hvm.1.2 t _ (rr_tys_at G ht)).2
  obtain ⟨c0, t0', f1, f2, f3⟩ := Cond.castable_spec (va_Nw.use (A := args) rfl (hvm.2.1 _ (rr_x hcl rfl)))
  cases hnm.symm.trans f1
  intro T hT X
  obtain ⟨-, kA, hkA, comp, hkind⟩ := State.isArrayOf_alike X.warmed.alike ((hvm.1.2 t _ (rr_tys_at G ht)).1 0 (fun _ => .null))
  obtain ⟨-, kS, hkS, compS, hkindS⟩ := (hvm.1.2 t _ (rr_tys_at G ht)).1 0 (fun _ => .null)
  obtain ⟨vm', X', step⟩ := X.cloneArray hC.1 hC.2.2.2.2.1 (hts _ hq) (hts _ hsm) (hts _ hnat) (hts _ hins) (hts _ hsl) (a := rr_ad G x) (cell := arrV (G.2.2.2.2.2 t) n (fun j => .int (Int32.ofInt (h.2.2.1 x j)))) (by rw [hT]; exact hc0) (fun k h => by cases h) (fun h => by cases h) hnm f2 f3
    (fun i v hv => by
      have hk' : T.vm.classes[G.2.2.2.2.2 t]? = some kA := hkA
      have hi : i < n := by
        have := (Array.getElem?_eq_some_iff.mp hv).1
        rwa [arrV_size] at this
      rw [arrV_read _ _ hi] at hv
      cases hv
      show T.fitsSlot (G.2.2.2.2.2 t) .none i _ = true
      simpa [State.fitsSlot, State.slotType?, hk', hkind] using hfit i hi)
    (g := F0 m pc la ((vR (some x) :: st).map (rr_g G))) rfl (by rw [hC.2.2.2.1]; exact hL.1.1) (rest := st.map (rr_g G)) rfl (by rw [hC.2.1]; exact dg) (by unfold rr_rm; dsimp only; split <;> omega) (by
      have := rr_wd_eq G st
      show 2 * 0 + _ + 14 ≤ 64 * d + 3296
      omega) hmc (by rw [arrV_size]; exact hms) (hloader := Vm.clonesLoader_of_array hkS hkindS)
  rw [arrV_size] at X'
  generalize hH1 : H.push (arrV (G.2.2.2.2.2 t) n (fun j => .int (Int32.ofInt (h.2.2.1 x j)))) = H1
  have z1 : H1.size = H.size + 1 := by rw [← hH1, Array.size_push]
  have e1 : H1[H.size]? = some (arrV (G.2.2.2.2.2 t) n (fun j => .int (Int32.ofInt (h.2.2.1 x j)))) := by rw [← hH1, Array.getElem?_push_size]
  have o1 : ∀ q : Nat, q < H.size → H1[q]? = H[q]? := fun q hq => by rw [← hH1, Array.getElem?_push, if_neg (Nat.ne_of_lt hq)]
  have hh := rr_ad_nx G hr
  have hr' : rr_rel G (rr_nw h nx (64 + t) n (h.2.2.1 x) (fun _ => none)) (nx + 1) H1 := hr.new z1 o1 (by
    unfold rr_cel
    have hk : (rr_nw h nx (64 + t) n (h.2.2.1 x) (fun _ => none)).1 nx = 64 + t := by simp [rr_nw, rr_u1]
    rw [hk, if_neg (by omega), Nat.add_sub_cancel_left, hh, e1]
    simp only [rr_nw, rr_u1, if_true]
    congr 2
    funext j
    rw [rr_et_of ht]
    exact (rr_fv_i G hf _ _).symm)
  have kk := k p e s m args below meth c H1 locs la hC hr' (rr_S_new hS z1 o1) hL
  have e2 : (vR (some nx) :: st).map (rr_g G) = .ref H.size :: st.map (rr_g G) := by rw [← hh]; rfl
  rw [e2] at kk
  obtain ⟨t2, b1, b2⟩ := kk ((T.setVm vm').pushCell (arrV (G.2.2.2.2.2 t) n (fun j => .int (Int32.ofInt (h.2.2.1 x j))))) (by rw [← hH1, ← hT]; rfl) X'
  refine ⟨t2, ?_, b2⟩
  have hs0 : T.heap.size = H.size := by rw [hT]
  rw [← hs0] at b1
  exact step t2 b1
/-- an array of whole numbers is cast to its own type -/
theorem x_castA (t : Nat) {x : Nat} {ty : FieldType} {nm : String} {idx : Nat} (ht : rr_al[t]? = some ty) (hra : ∀ U cA, va_RA U cA ty → U.vm.findClass nm = some cA) (hq : Cond.classLink y.cls idx nm ∈ lw_all) (hx : h.1 x = 64 + t) (dg : decode cc pc = .ok (.checkcast idx, 3)) (k : rr_R G y cc nL ret d mc ms Q (pc + 3) ls (vR (some x) :: st) h nx cu su) : rr_R G y cc nL ret d mc ms Q pc ls (vR (some x) :: st) h nx cu su := by
  intro p e s m args below meth c H locs la hC hr hS hL
  have hts := hC.2.2.2.2.2.1
  have hvm := hC.2.2.2.2.2.2.2.2.1
  have hnm : s.vm.findClass nm = some (G.2.2.2.2.2 t) := hra _ _ (hvm.1.2 t _ (rr_tys_at G ht)).2
  have hc0 := hr.arr hx
  intro T hT X
  obtain ⟨vm', X', step⟩ := X.checkcastYes hC.1 hC.2.2.2.2.1 (hts _ hq) (by rw [hT]; exact hc0) rfl hnm (va_asg _ _) (g := F0 m pc la ((vR (some x) :: st).map (rr_g G))) rfl rfl (by rw [hC.2.1]; exact dg)
  obtain ⟨t2, a1, b1⟩ := k p e s m args below meth c H locs la hC hr hS hL (T.setVm vm') hT X'
  exact ⟨t2, step t2 a1, b1⟩
theorem gp_nret {P : rr_V → rr_H → Nat → Prop} {ty : FieldType} {z : Int} (hret : ret = some ty) (dg : decode cc pc = .ok (.ireturn, 1)) (hz : narrow ty (.int (Int32.ofInt z)) = .int (Int32.ofInt z)) (hc : cu ≤ mc) (hs : su ≤ ms) (k : P (vI z) h nx) : gp G y cc nL ret d mc ms P pc ls [vI z] h nx cu su := by
  intro p e s m args below meth c H locs la hC hr hS hL
  refine W.widen (k := mc) (n := ms) hc hs ?_
  exact W.zret hC.1 hC.2.1 (hC.2.2.1.trans hret) hz (fun t ht hW => ⟨⟨some (vI z), h, nx, rfl, ⟨_, rfl, k⟩, by rw [ht]; exact hr⟩, hS.F ht⟩) hS.2.2 dg hC.2.2.2.2.2.2.1
end RULES
theorem rT2 {P : Prop} (h : P) : vI 1 = vI (bi P) := by rw [bi_t h]
theorem rF2 {P : Prop} (h : ¬ P) : vI 0 = vI (bi P) := by rw [bi_f h]
theorem rr_ra_int : ∀ (U : State) (cA : ClassId), va_RA U cA .int → U.vm.findClass "[I" = some cA := fun _ _ h => h
theorem rr_ra_byte : ∀ (U : State) (cA : ClassId), va_RA U cA .byte → U.vm.findClass "[B" = some cA := fun _ _ h => h
theorem rr_char : ∀ z : Fin 256, narrow .char (.int (Int32.ofInt (z.val : Int))) = .int (Int32.ofInt (z.val : Int)) := by decide
theorem rr_nar_c {z : Int} (h : 0 ≤ z ∧ z < 256) : narrow .char (.int (Int32.ofInt z)) = .int (Int32.ofInt z) := by
  have h1 := rr_char ⟨z.toNat, by omega⟩
  have : ((z.toNat : Nat) : Int) = z := by omega
  rw [this] at h1
  exact h1
theorem rr_cmp_gt (x y : Int64) : 0 < lg_cmp x y ↔ y < x := by
  unfold lg_cmp
  by_cases h : x > y
  · rw [if_pos h]
    exact ⟨fun _ => h, fun _ => by decide⟩
  · rw [if_neg h]
    by_cases h2 : x = y
    · rw [if_pos h2]
      exact ⟨fun q => absurd q (by decide), fun q => absurd q h⟩
    · rw [if_neg h2]
      exact ⟨fun q => absurd q (by decide), fun q => absurd q h⟩
/-- in(v, lo, hi) of whole longs -/
theorem xc_in {v lo hi : Int} (h1 : -9223372036854775808 ≤ v ∧ v < 9223372036854775808) (h2 : -9223372036854775808 ≤ lo ∧ lo < 9223372036854775808) (h3 : -9223372036854775808 ≤ hi ∧ hi < 9223372036854775808) (G : rr_G) (h : rr_H) (nx : Nat) : gP G yX0_in cX0_in 6 (some .boolean) 0 0 0 [vJ v, vJ lo, vJ hi] h nx (gEq (vI (bi (lo ≤ v ∧ v ≤ hi))) h nx) := by
  refine Met.ofW (cc := cX0_in) (maxL := 6) (ret := some .boolean) (by decide) rfl ?_
  intro p e s m args below meth c s₁ B hml hv
  obtain ⟨rfl, hw⟩ := hv
  have hent := lv_entry ([vJ v, vJ lo, vJ hi].map (rr_g G)) (n := 6) (Nat.le_of_ble_eq_true rfl)
  rw [lg_entry_eq]
  have hl : lv_has _ 6 [(0, .long (Int64.ofInt v)), (2, .long (Int64.ofInt lo)), (4, .long (Int64.ofInt hi))] := hent
  generalize ((lg_sl ([vJ v, vJ lo, vJ hi].map (rr_g G)) ++ List.replicate (6 - (lg_sl ([vJ v, vJ lo, vJ hi].map (rr_g G))).length) Slot.unset).toArray) = la at hl ⊢
  have fin : ∀ z : Int, (z = 0 ∨ z = 1) → z = bi (lo ≤ v ∧ v ≤ hi) → W p G.1.1 e (rr_rm 0 0 0) s m (List.map (rr_g G) [vJ v, vJ lo, vJ hi]).toArray below meth c s.heap [] 0 0 (MQ below (rr_Q G (fun r2 h2 n2 => ∃ v', r2 = some v' ∧ gEq (vI (bi (lo ≤ v ∧ v ≤ hi))) h nx v' h2 n2)) (List.map (rr_g G) [vJ v, vJ lo, vJ hi]).toArray s 0 0 (rr_A G)) (F0 m 18 la [.int (Int32.ofInt z)]) := by
    intro z hz e1
    exact W.zret B.exec B.bytes B.returns (by rcases hz with rfl | rfl <;> decide) (fun t ht hW => ⟨⟨some (vI z), h, nx, rfl, ⟨_, rfl, by rw [e1]; exact ⟨rfl, rfl, rfl⟩⟩, by rw [ht]; exact hw.1⟩, va_S.rf.F ht⟩) (fun q hq => by cases hq) dX0_in_18 B.notSynchronized
  refine lv_lload_n B.exec B.bytes dX0_in_0 rfl (lv_at hl 1 rfl) ?_
  refine lv_lload_n B.exec B.bytes dX0_in_1 rfl (lv_at hl 0 rfl) ?_
  refine W.lcmp B.exec B.bytes dX0_in_2 ?_
  refine lv_if_gt (tgt := 17) B.exec B.bytes dX0_in_3 (by decide) (fun q => ?_) (fun q => ?_)
  · rw [rr_cmp_gt, rr_lt_iffL h1 h2] at q
    refine lv_iconst B.exec B.bytes dX0_in_17 rfl ?_
    exact fin 0 (Or.inl rfl) (by rw [bi_f (by omega)])
  · rw [rr_cmp_gt, rr_lt_iffL h1 h2] at q
    refine lv_lload_n B.exec B.bytes dX0_in_6 rfl (lv_at hl 0 rfl) ?_
    refine lv_lload B.exec B.bytes dX0_in_7 (lv_at hl 2 rfl) ?_
    refine W.lcmp B.exec B.bytes dX0_in_9 ?_
    refine lv_if_gt (tgt := 17) B.exec B.bytes dX0_in_10 (by decide) (fun q2 => ?_) (fun q2 => ?_)
    · rw [rr_cmp_gt, rr_lt_iffL h3 h1] at q2
      refine lv_iconst B.exec B.bytes dX0_in_17 rfl ?_
      exact fin 0 (Or.inl rfl) (by rw [bi_f (by omega)])
    · rw [rr_cmp_gt, rr_lt_iffL h3 h1] at q2
      refine lv_iconst B.exec B.bytes dX0_in_13 rfl ?_
      refine lv_goto (tgt := 18) B.exec B.bytes dX0_in_14 (by decide) ?_
      exact fin 1 (Or.inr rfl) (by rw [bi_t (by omega)])
section RULES
variable {G : rr_G} {y : MethodName} {cc : ByteArray} {nL : Nat} {ret : Option FieldType} {d mc ms : Nat} {Q : List Frame → Array Value → State → State → Prop} {pc : Nat} {ls : List (Option rr_V)} {st : List rr_V} {h : rr_H} {nx cu su : Nat}
variable {K N : Nat → Nat} {I : Nat → Int → Int} {R : Nat → Int → Option Nat}
theorem g_cpyI (t : Nat) {x z : Nat} {ty : FieldType} {sp dp n : Int} {idx : Nat} (ht : rr_al[t]? = some ty) (hf : rr_fk ty = 0) (hpr : refKind ty = false) (hq : Cond.methodLink y.cls idx arraycopyName ∈ lw_all) (hnat : Cond.native arraycopyName ∈ lw_all) (hsta : Cond.static arraycopyName ∈ lw_all) (hini : Cond.initialized "java/lang/System" ∈ lw_all) (hx : K x = 64 + t) (hz : K z = 64 + t) (hz3 : 300 ≤ z) (hb : (0 ≤ sp ∧ 0 ≤ dp ∧ 0 ≤ n) ∧ sp + n ≤ (N x : Int) ∧ dp + n ≤ (N z : Int)) (hlt : (N x : Int) < 2147483648 ∧ (N z : Int) < 2147483648)
    (hfit : ∀ j, sp ≤ j → j < sp + n → fits ty (.int (Int32.ofInt (I x j))) = true) (hd : 1 ≤ d) (hw : rr_wd st ≤ 8) (dg : decode cc pc = .ok (.invokestatic idx, 3))
    (k : rr_R G y cc nL ret d mc ms Q (pc + 3) ls st (K, N, rr_cpy I x z sp dp n, R) nx cu su) : rr_R G y cc nL ret d mc ms Q pc ls (vI n :: vI dp :: vR (some z) :: vI sp :: vR (some x) :: st) (K, N, I, R) nx cu su := x_cpyI t ht hf hpr hq hnat hsta hini hx hz hz3 hb hlt hfit hd hw dg k
theorem g_cpyR (t : Nat) {x z : Nat} {C : String} {sp dp n : Int} {idx : Nat} (ht : rr_al[t]? = some (.object C)) (hq : Cond.methodLink y.cls idx arraycopyName ∈ lw_all) (hnat : Cond.native arraycopyName ∈ lw_all) (hsta : Cond.static arraycopyName ∈ lw_all) (hini : Cond.initialized "java/lang/System" ∈ lw_all) (hx : K x = 64 + t) (hz : K z = 64 + t) (hz3 : 300 ≤ z) (hb : (0 ≤ sp ∧ 0 ≤ dp ∧ 0 ≤ n) ∧ sp + n ≤ (N x : Int) ∧ dp + n ≤ (N z : Int)) (hlt : (N x : Int) < 2147483648 ∧ (N z : Int) < 2147483648)
    (hel : ∀ j v, sp ≤ j → j < sp + n → R x j = some v → ∃ (ci : Nat) (q : vw_C), rr_cl[ci]? = some q ∧ ci ≠ 0 ∧ K v = ci ∧ (q.1 = C ∨ Cond.castable q.1 C ∈ lw_tbl)) (hd : 1 ≤ d) (hw : rr_wd st ≤ 8) (dg : decode cc pc = .ok (.invokestatic idx, 3))
    (k : rr_R G y cc nL ret d mc ms Q (pc + 3) ls st (K, N, I, rr_cpy R x z sp dp n) nx cu su) : rr_R G y cc nL ret d mc ms Q pc ls (vI n :: vI dp :: vR (some z) :: vI sp :: vR (some x) :: st) (K, N, I, R) nx cu su := x_cpyR t ht hq hnat hsta hini hx hz hz3 hb hlt hel hd hw dg k
theorem g_clone (t : Nat) {x n : Nat} {ty : FieldType} {ad : String} {idx : Nat} (ht : rr_al[t]? = some ty) (hf : rr_fk ty = 0) (had : "[" ++ ty.toString = ad) (hra : ∀ U cA, va_RA U cA ty → U.vm.findClass ad = some cA) (hq : Cond.methodLink y.cls idx ⟨ad, "clone", "()Ljava/lang/Object;"⟩ ∈ lw_all) (hsm : Cond.sameMethod ad "java/lang/Object" "clone" "()Ljava/lang/Object;" ∈ lw_all) (hnat : Cond.native ⟨"java/lang/Object", "clone", "()Ljava/lang/Object;"⟩ ∈ lw_all) (hins : Cond.instanceMethod ⟨"java/lang/Object", "clone", "()Ljava/lang/Object;"⟩ ∈ lw_all) (hsl : Cond.selects ad ⟨ad, "clone", "()Ljava/lang/Object;"⟩ ⟨"java/lang/Object", "clone", "()Ljava/lang/Object;"⟩ ∈ lw_all) (hcl : Cond.castable ad "java/lang/Cloneable" ∈ lw_tbl)
    (hx : K x = 64 + t) (hn : N x = n) (hfit : ∀ j : Nat, j < n → fits ty (.int (Int32.ofInt (I x j))) = true) (hd : 1 ≤ d) (hw : rr_wd st ≤ 8) (hmc : cu + 1 ≤ mc) (hms : su + n ≤ ms) (dg : decode cc pc = .ok (.invokevirtual idx, 3))
    (k : rr_R G y cc nL ret d mc ms Q (pc + 3) ls (vR (some nx) :: st) (rr_u1 K nx (64 + t), rr_u1 N nx n, rr_u1 I nx (I x), rr_u1 R nx (fun _ => none)) (nx + 1) (cu + 1) (su + n)) : rr_R G y cc nL ret d mc ms Q pc ls (vR (some x) :: st) (K, N, I, R) nx cu su := x_clone t ht hf had hq hsm hnat hins hsl hcl hx hn hfit hra hd hw hmc hms dg k
theorem g_castA (t : Nat) {x : Nat} {ty : FieldType} {nm : String} {idx : Nat} (ht : rr_al[t]? = some ty) (hra : ∀ U cA, va_RA U cA ty → U.vm.findClass nm = some cA) (hq : Cond.classLink y.cls idx nm ∈ lw_all) (hx : K x = 64 + t) (dg : decode cc pc = .ok (.checkcast idx, 3)) (k : rr_R G y cc nL ret d mc ms Q (pc + 3) ls (vR (some x) :: st) (K, N, I, R) nx cu su) : rr_R G y cc nL ret d mc ms Q pc ls (vR (some x) :: st) (K, N, I, R) nx cu su := x_castA t ht hra hq hx dg k
/-- what lives lies below the next handle -/
theorem x_live (k : (∀ x, h.1 x ≠ 0 → x < nx) → 300 ≤ nx → rr_R G y cc nL ret d mc ms Q pc ls st h nx cu su) : rr_R G y cc nL ret d mc ms Q pc ls st h nx cu su := fun p e s m args below meth c H locs la hC hr hS hL => k (fun x hx => (hr.2.2.1 x hx).1) hr.1 p e s m args below meth c H locs la hC hr hS hL
end RULES
