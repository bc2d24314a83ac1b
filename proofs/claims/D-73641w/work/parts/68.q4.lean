/-! QUEUES 4: class objects, Arrays.copyOf, grow -/
set_option maxRecDepth 100000
section CLS
variable {G : rr_G} {y : MethodName} {cc : ByteArray} {nL : Nat} {ret : Option FieldType} {d mc ms : Nat} {Q : List Frame → Array Value → State → State → Prop} {pc : Nat} {ls : List (Option rr_V)} {st : List rr_V} {h : rr_H} {nx cu su : Nat}
theorem x_ldcM {idx : Nat} (hq : Cond.classLink y.cls idx "[Ljava/lang/Object;" ∈ lw_all) (dg : decode cc pc = .ok (.ldc idx, 2)) (k : rr_R G y cc nL ret d mc ms Q (pc + 2) ls (vR (some 7) :: st) h nx cu su) : rr_R G y cc nL ret d mc ms Q pc ls st h nx cu su := by
  intro p e s m args below meth c H locs la hC hr hS hL
  have hvm := hC.2.2.2.2.2.2.2.2.1
  have kk := k p e s m args below meth c H locs la hC hr hS hL
  have e2 : (vR (some 7) :: st).map (rr_g G) = .ref (G.2.2.1 7) :: st.map (rr_g G) := by
    show rr_g G (vR (some 7)) :: _ = _
    simp [rr_g, va_rf, rr_ad]
  rw [e2] at kk
  exact va_ldcM hC.1 hC.2.1 hC.2.2.2.2.1 (hC.2.2.2.2.2.1 _ hq) hvm.2.2.2.2.2.2.2 dg kk
theorem x_getC {x idx : Nat} (hq : Cond.methodLink y.cls idx ⟨"java/lang/Object", "getClass", "()Ljava/lang/Class;"⟩ ∈ lw_all) (hx : h.1 x = 67) (hd : 1 ≤ d) (hw : rr_wd st ≤ 8) (dg : decode cc pc = .ok (.invokevirtual idx, 3)) (k : rr_R G y cc nL ret d mc ms Q (pc + 3) ls (vR (some 7) :: st) h nx cu su) : rr_R G y cc nL ret d mc ms Q pc ls (vR (some x) :: st) h nx cu su := by
  intro p e s m args below meth c H locs la hC hr hS hL
  have hts := hC.2.2.2.2.2.1
  have hvm := hC.2.2.2.2.2.2.2.2.1
  have kk := k p e s m args below meth c H locs la hC hr hS hL
  have e2 : (vR (some 7) :: st).map (rr_g G) = .ref (G.2.2.1 7) :: st.map (rr_g G) := by
    show rr_g G (vR (some 7)) :: _ = _
    simp [rr_g, va_rf, rr_ad]
  rw [e2] at kk
  have hx' : h.1 x = 64 + 3 := hx
  have hc0 := hr.arr hx'
  have ht : rr_al[3]? = some (.object "java/lang/Object") := rfl
  have hnm : s.vm.findClass "[Ljava/lang/Object;" = some (G.2.2.2.2.2 3) := va_nmO (hvm.1.2 3 _ (rr_tys_at G ht)).2 (by decide)
  exact va_getC hC.1 hC.2.1 (by rw [hC.2.2.2.1]; exact hL.1.1.symm) hC.2.2.2.2.1 (hts _ hq) (va_Nw.use (A := args) rfl (hvm.2.1 _ (rr_x q2758 rfl))) (hts _ q2757) (hts _ q1606) (hts _ q1634) hvm.2.2.2.2.2.2.2 ⟨_, hc0, rfl, hnm⟩ (by unfold rr_rm; dsimp only; split <;> omega) (by
      have := rr_wd_eq G st
      show _ + 14 ≤ 64 * d + 3296
      omega) dg kk
theorem x_acmp_neS {a : Option Nat} {o : Int} (dg : decode cc pc = .ok (.if_acmp .ne o, 3)) {t : Nat} (ht : (pc : Int) + o = (t : Int)) (kf : rr_R G y cc nL ret d mc ms Q (pc + 3) ls st h nx cu su) : rr_R G y cc nL ret d mc ms Q pc ls (vR a :: vR a :: st) h nx cu su := by
  intro p e s m args below meth c H locs la hC hr hS hL
  exact lv_acmp_ne (rx := a.map (rr_ad G)) (ry := a.map (rr_ad G)) hC.1 hC.2.1 dg ht (fun q => absurd rfl q) (fun _ => kf p e s m args below meth c H locs la hC hr hS hL)
end CLS
