/-! RULES of the heap -/
set_option maxRecDepth 100000
def rr_fk (ty : FieldType) : Nat := match ty with
  | .long => 1
  | .object _ => 2
  | .array _ => 2
  | .float => 3
  | .double => 3
  | _ => 0
theorem rr_fv_i (G : rr_G) {ty : FieldType} (h : rr_fk ty = 0) (z : Int) (r : Option Nat) : rr_fv G ty z r = .int (Int32.ofInt z) := by
  cases ty <;> first | rfl | (simp [rr_fk] at h)
theorem rr_fv_j (G : rr_G) {ty : FieldType} (h : rr_fk ty = 1) (z : Int) (r : Option Nat) : rr_fv G ty z r = .long (Int64.ofInt z) := by
  cases ty <;> first | rfl | (simp [rr_fk] at h)
theorem rr_fv_r (G : rr_G) {ty : FieldType} (h : rr_fk ty = 2) (z : Int) (r : Option Nat) : rr_fv G ty z r = va_rf (r.map (rr_ad G)) := by
  cases ty <;> first | rfl | (simp [rr_fk] at h)
def rr_u2 {α : Type} (I : Nat → Int → α) (x : Nat) (i : Int) (v : α) : Nat → Int → α := fun y j => if y = x ∧ j = i then v else I y j
def rr_u1 {α : Type} (K : Nat → α) (x : Nat) (v : α) : Nat → α := fun y => if y = x then v else K y
def rr_sI (h : rr_H) (x : Nat) (i v : Int) : rr_H := (h.1, h.2.1, rr_u2 h.2.2.1 x i v, h.2.2.2)
def rr_sR (h : rr_H) (x : Nat) (i : Int) (v : Option Nat) : rr_H := (h.1, h.2.1, h.2.2.1, rr_u2 h.2.2.2 x i v)
/-- a new cell: kind, length, ints, references -/
def rr_nw (h : rr_H) (x k n : Nat) (f : Int → Int) (r : Int → Option Nat) : rr_H := (rr_u1 h.1 x k, rr_u1 h.2.1 x n, rr_u1 h.2.2.1 x f, rr_u1 h.2.2.2 x r)
theorem rr_u2_same {α : Type} (I : Nat → Int → α) (x : Nat) (i : Int) (v : α) : rr_u2 I x i v x i = v := by simp [rr_u2]
theorem rr_u2_ne {α : Type} (I : Nat → Int → α) {x y : Nat} {i j : Int} (v : α) (h : ¬ (y = x ∧ j = i)) : rr_u2 I x i v y j = I y j := by simp [rr_u2, h]
/-- what is known of a class by its kind -/
theorem rr_ckn : ∀ (ci : Nat) (q : vw_C), rr_cl[ci]? = some q → (∀ w ∈ u_ws q.1 q.2.1 q.2.2, w ∈ lw_all) ∧ (∀ k, k < q.2.2 → parseFieldDescriptor (q.2.1 k).2.2.1 = some (rr_ty ci k)) ∧ (∀ a, a < q.2.2 → ∀ b, b < q.2.2 → a ≠ b → (q.2.1 a).2.1 ≠ (q.2.1 b).2.1) ∧ rr_nf ci = q.2.2 ∧ ci < 64 := by
  intro ci q h
  match ci, h with
  | 0, h => cases h; exact ⟨in_X0, tyX0_ok, nmX0, rfl, by decide⟩
  | 1, h => cases h; exact ⟨in_X0, tyX0_ok, nmX0, rfl, by decide⟩
  | 2, h => cases h; exact ⟨in_X4, tyX4_ok, nmX4, rfl, by decide⟩
  | 3, h => cases h; exact ⟨in_X1, tyX1_ok, nmX1, rfl, by decide⟩
  | 4, h => cases h; exact ⟨in_X8, tyX8_ok, nmX8, rfl, by decide⟩
  | 5, h => cases h; exact ⟨in_X12, tyX12_ok, nmX12, rfl, by decide⟩
  | 6, h => cases h; exact ⟨in_X3, tyX3_ok, nmX3, rfl, by decide⟩
  | 7, h => cases h; exact ⟨in_X2, tyX2_ok, nmX2, rfl, by decide⟩
  | 8, h => cases h; exact ⟨in_X11, tyX11_ok, nmX11, rfl, by decide⟩
  | 9, h => cases h; exact ⟨in_X7, tyX7_ok, nmX7, rfl, by decide⟩
  | 10, h => cases h; exact ⟨in_X9, tyX9_ok, nmX9, rfl, by decide⟩
  | 11, h => cases h; exact ⟨in_X5, tyX5_ok, nmX5, rfl, by decide⟩
  | 12, h => cases h; exact ⟨in_X6, tyX6_ok, nmX6, rfl, by decide⟩
  | 13, h => cases h; exact ⟨fun w hw => by simp [u_ws] at hw, fun k hk => absurd hk (Nat.not_lt_zero k), fun k hk => absurd hk (Nat.not_lt_zero k), rfl, by decide⟩
  | 14, h => cases h; exact ⟨in_J7, tyJ7_ok, nmJ7, rfl, by decide⟩
  | 15, h => cases h; exact ⟨in_J6, tyJ6_ok, nmJ6, rfl, by decide⟩
  | 16, h => cases h; exact ⟨in_J1, tyJ1_ok, nmJ1, rfl, by decide⟩
  | 17, h => cases h; exact ⟨in_J19, tyJ19_ok, nmJ19, rfl, by decide⟩
  | 18, h => cases h; exact ⟨in_J18, tyJ18_ok, nmJ18, rfl, by decide⟩
  | 19, h => cases h; exact ⟨in_J20, tyJ20_ok, nmJ20, rfl, by decide⟩
  | 20, h => cases h; exact ⟨in_J24, tyJ24_ok, nmJ24, rfl, by decide⟩
  | 21, h => cases h; exact ⟨in_J30, tyJ30_ok, nmJ30, rfl, by decide⟩
  | 22, h => cases h; exact ⟨in_J4, tyJ4_ok, nmJ4, rfl, by decide⟩
  | 23, h => cases h; exact ⟨fun w hw => by simp [u_ws] at hw, fun k hk => absurd hk (Nat.not_lt_zero k), fun k hk => absurd hk (Nat.not_lt_zero k), rfl, by decide⟩
  | k + 24, h => simp [rr_cl] at h
theorem rr_rel.at {G : rr_G} {h : rr_H} {nx : Nat} {H : Heap} (hr : rr_rel G h nx H) {x : Nat} (hx : h.1 x ≠ 0) : rr_cel G h x H := (hr.2.2.1 x hx).2.2
theorem rr_rel.own {G : rr_G} {h : rr_H} {nx : Nat} {H : Heap} (hr : rr_rel G h nx H) {x : Nat} (hx3 : 300 ≤ x) (hx : h.1 x ≠ 0) : rr_A G (rr_ad G x) := hr.2.2.2.1 x hx3 hx
theorem rr_rel.obj {G : rr_G} {h : rr_H} {nx : Nat} {H : Heap} (hr : rr_rel G h nx H) {x ci : Nat} {q : vw_C} (hc : rr_cl[ci]? = some q) (h0 : ci ≠ 0) (hx : h.1 x = ci) :
    t_OB (rr_ad G x) (G.2.2.2.1 ci) q.2.2 (G.2.2.2.2.1 ci) H (fun j => rr_fv G (rr_ty ci j) (h.2.2.1 x j) (h.2.2.2 x j)) := by
  have h1 := hr.at (x := x) (by rw [hx]; exact h0)
  obtain ⟨-, -, -, h4, h5⟩ := rr_ckn ci q hc
  unfold rr_cel at h1
  rw [hx, if_pos h5, h4] at h1
  exact h1
theorem rr_rel.arr {G : rr_G} {h : rr_H} {nx : Nat} {H : Heap} (hr : rr_rel G h nx H) {x t : Nat} (hx : h.1 x = 64 + t) :
    H[rr_ad G x]? = some (arrV (G.2.2.2.2.2 t) (h.2.1 x) (fun j => rr_fv G (rr_et t) (h.2.2.1 x j) (h.2.2.2 x j))) := by
  have h1 := hr.at (x := x) (by rw [hx]; omega)
  unfold rr_cel at h1
  rw [hx, if_neg (by omega), Nat.add_sub_cancel_left] at h1
  exact h1
theorem rr_rel.ne {G : rr_G} {h : rr_H} {nx : Nat} {H : Heap} (hr : rr_rel G h nx H) {x y : Nat} (hx : 300 ≤ x) (hy : h.1 y ≠ 0) (hne : y ≠ x) : rr_ad G y ≠ rr_ad G x := by
  have h1 := hr.2.2.1 y hy
  unfold rr_ad
  rw [if_neg (show ¬ x < 300 by omega)]
  by_cases hy3 : y < 300
  · rw [if_pos hy3]
    have := h1.2.1 hy3
    omega
  · rw [if_neg hy3]
    omega
theorem rr_ad_nx (G : rr_G) {h : rr_H} {nx : Nat} {H : Heap} (hr : rr_rel G h nx H) : rr_ad G nx = H.size := by
  unfold rr_ad
  rw [if_neg (by have := hr.1; omega), hr.2.1]
/-- a cell that stays -/
theorem rr_cel.kept {G : rr_G} {h h' : rr_H} {x : Nat} {H H' : Heap} (hc : rr_cel G h x H) (hH : H'[rr_ad G x]? = H[rr_ad G x]?) (h1 : h'.1 x = h.1 x) (h2 : h'.2.1 x = h.2.1 x) (h3 : h'.2.2.1 x = h.2.2.1 x) (h4 : h'.2.2.2 x = h.2.2.2 x) : rr_cel G h' x H' := by
  unfold rr_cel at hc ⊢
  rw [h1, h2, h3, h4]
  by_cases hk : h.1 x < 64
  · rw [if_pos hk] at hc ⊢
    exact t_OB.kept hc hH
  · rw [if_neg hk] at hc ⊢
    rw [hH]
    exact hc
/-- one cell is written -/
theorem rr_rel.set {G : rr_G} {h h' : rr_H} {nx : Nat} {H H' : Heap} (hr : rr_rel G h nx H) {x : Nat} (hx3 : 300 ≤ x) (hx : h.1 x ≠ 0) (z : H'.size = H.size) (oq : ∀ q, q ≠ rr_ad G x → H'[q]? = H[q]?)
    (h1 : h'.1 = h.1) (h2 : h'.2.1 = h.2.1) (h3 : ∀ y, y ≠ x → h'.2.2.1 y = h.2.2.1 y) (h4 : ∀ y, y ≠ x → h'.2.2.2 y = h.2.2.2 y) (hc : rr_cel G h' x H') : rr_rel G h' nx H' := by
  refine ⟨hr.1, by rw [z]; exact hr.2.1, fun y hy => ?_, fun y hy3 hy => hr.2.2.2.1 y hy3 (by rw [h1] at hy; exact hy), hr.2.2.2.2⟩
  rw [h1] at hy
  have hy' := hr.2.2.1 y hy
  refine ⟨hy'.1, hy'.2.1, ?_⟩
  by_cases hyx : y = x
  · rw [hyx]; exact hc
  · exact hy'.2.2.kept (oq _ (hr.ne hx3 hy hyx)) (by rw [h1]) (by rw [h2]) (h3 y hyx) (h4 y hyx)
/-- a cell is made -/
theorem rr_rel.new {G : rr_G} {h : rr_H} {nx : Nat} {H H' : Heap} (hr : rr_rel G h nx H) {k n : Nat} {f : Int → Int} {r : Int → Option Nat} (z : H'.size = H.size + 1) (oq : ∀ q, q < H.size → H'[q]? = H[q]?)
    (hc : rr_cel G (rr_nw h nx k n f r) nx H') : rr_rel G (rr_nw h nx k n f r) (nx + 1) H' := by
  refine ⟨by have := hr.1; omega, by rw [z, hr.2.1]; have := hr.1; omega, fun y hy => ?_, fun y hy3 hy => ?_, fun q hq => hr.2.2.2.2 q (by omega)⟩
  rotate_left
  · by_cases hyx : y = nx
    · subst hyx
      refine hr.2.2.2.2 _ ?_
      unfold rr_ad
      rw [if_neg (by omega)]
      omega
    · have : (rr_nw h nx k n f r).1 y = h.1 y := by simp [rr_nw, rr_u1, hyx]
      rw [this] at hy
      exact hr.2.2.2.1 y hy3 hy
  by_cases hyx : y = nx
  · subst hyx
    exact ⟨by omega, fun h3 => by have := hr.1; omega, hc⟩
  · have hy0 : h.1 y ≠ 0 := by
      have : (rr_nw h nx k n f r).1 y = h.1 y := by simp [rr_nw, rr_u1, hyx]
      rw [this] at hy
      exact hy
    have hy' := hr.2.2.1 y hy0
    refine ⟨by omega, hy'.2.1, hy'.2.2.kept (oq _ ?_) (by simp [rr_nw, rr_u1, hyx]) (by simp [rr_nw, rr_u1, hyx]) (by simp [rr_nw, rr_u1, hyx]) (by simp [rr_nw, rr_u1, hyx])⟩
    rw [hr.2.1]
    unfold rr_ad
    by_cases hy3 : y < 300
    · rw [if_pos hy3]
      have := hy'.2.1 hy3
      omega
    · rw [if_neg hy3]
      have := hy'.1
      have := hr.1
      omega
theorem rr_tys_at (G : rr_G) {t : Nat} {ty : FieldType} (h : rr_al[t]? = some ty) : (rr_tys G)[t]? = some (G.2.2.2.2.2 t, ty) := by
  unfold rr_tys
  rw [List.getElem?_mapIdx, h]
  rfl
theorem rr_et_of {t : Nat} {ty : FieldType} (h : rr_al[t]? = some ty) : rr_et t = ty := by
  unfold rr_et
  rw [h]
  rfl
/-- a number that a field of this type bears as it is -/
def rr_nar (ty : FieldType) (z : Int) : Prop := narrow ty (.int (Int32.ofInt z)) = .int (Int32.ofInt z) ∧ fits ty (.int (Int32.ofInt z)) = true
theorem rr_nar_i (z : Int) : rr_nar .int z := ⟨rfl, rfl⟩
theorem rr_nar_z {z : Int} (h : z = 0 ∨ z = 1) : rr_nar .boolean z := by
  rcases h with rfl | rfl
  · exact ⟨by decide, by decide⟩
  · exact ⟨by decide, by decide⟩
theorem rr_byte : ∀ z : Fin 256, rr_nar .byte ((z.val : Int) - 128) := by
  unfold rr_nar
  decide
theorem rr_nar_b {z : Int} (h : -128 ≤ z ∧ z < 128) : rr_nar .byte z := by
  have h1 : rr_nar .byte ((((z + 128).toNat : Nat) : Int) - 128) := rr_byte ⟨(z + 128).toNat, by omega⟩
  have : (((z + 128).toNat : Nat) : Int) - 128 = z := by omega
  rw [this] at h1
  exact h1
section RULES
variable {G : rr_G} {y : MethodName} {cc : ByteArray} {nL : Nat} {ret : Option FieldType} {d mc ms : Nat} {Post : Option rr_V → rr_H → Nat → Prop} {Q : List Frame → Array Value → State → State → Prop} {pc : Nat} {ls : List (Option rr_V)} {st : List rr_V} {h : rr_H} {nx cu su : Nat}
theorem x_getV {ci kf idx N x : Nat} {C ref : String} {T : u_T} {v : rr_V} (hc : rr_cl[ci]? = some (C, T, N)) (h0 : ci ≠ 0) (hk : kf < N) (hq : Cond.fieldLink y.cls idx ref (T kf).2.1 (T kf).2.2.1 ∈ lw_all ∨ ∃ host, Cond.fieldLinkNest y.cls idx ref (T kf).2.1 (T kf).2.2.1 host ∈ rr_xs) (hre : ref = (T kf).1) (hx : h.1 x = ci) (hv : rr_fv G (rr_ty ci kf) (h.2.2.1 x kf) (h.2.2.2 x kf) = rr_g G v) (dg : decode cc pc = .ok (.getfield idx, 3))
    (k : rr_R G y cc nL ret d mc ms Q (pc + 3) ls (v :: st) h nx cu su) : rr_R G y cc nL ret d mc ms Q pc ls (vR (some x) :: st) h nx cu su := by
  intro p e s m args below meth c H locs la hC hr hS hL
  obtain ⟨cell, q1, q2, q3, q4⟩ := hr.obj hc h0 hx
  obtain ⟨hS1, hfc, kC, hkC, hkind⟩ := hC.2.2.2.2.2.2.2.2.1.1.1 ci _ hc
  obtain ⟨cf, kf1, fi, f, hi, hsl⟩ := hS1 kf hk
  have hst := (u_facts hfc hkC (u_lays hC.2.2.2.2.2.1 (rr_ckn ci _ hc).1 hk) hi).1
  have hslot : cell.slots[f.slot]? = some (rr_g G v) := by rw [hsl]; exact (q4 kf hk).trans (congrArg some hv)
  subst hre
  rcases hq with hq | ⟨host, hq⟩
  · exact W.getf hC.1 hC.2.1 hC.2.2.2.2.1 (hC.2.2.2.2.2.1 _ hq) hi hst q1 (by rw [q3]; exact fun h => by cases h) hslot rfl rfl dg (k p e s m args below meth c H locs la hC hr hS hL)
  · exact va_Wgetf hC.1 hC.2.1 hC.2.2.2.2.1 (va_Nw.use rfl (hC.2.2.2.2.2.2.2.2.1.2.1 _ hq)) hi hst q1 (by rw [q3]; exact fun h => by cases h) hslot rfl rfl dg (k p e s m args below meth c H locs la hC hr hS hL)
theorem x_getI {ci kf idx N x : Nat} {C ref : String} {T : u_T} (kz : Int) (hc : rr_cl[ci]? = some (C, T, N)) (h0 : ci ≠ 0) (hk : kf < N) (hf : rr_fk (rr_ty ci kf) = 0) (hz : (kf : Int) = kz) (hq : Cond.fieldLink y.cls idx ref (T kf).2.1 (T kf).2.2.1 ∈ lw_all) (hre : ref = (T kf).1) (hx : h.1 x = ci) (dg : decode cc pc = .ok (.getfield idx, 3))
    (k : rr_R G y cc nL ret d mc ms Q (pc + 3) ls (vI (h.2.2.1 x kz) :: st) h nx cu su) : rr_R G y cc nL ret d mc ms Q pc ls (vR (some x) :: st) h nx cu su :=
  x_getV hc h0 hk (Or.inl hq) hre hx (by rw [hz]; exact rr_fv_i G hf _ _) dg k
theorem x_getR {ci kf idx N x : Nat} {C ref : String} {T : u_T} (kz : Int) {r : Option Nat} (hc : rr_cl[ci]? = some (C, T, N)) (h0 : ci ≠ 0) (hk : kf < N) (hf : rr_fk (rr_ty ci kf) = 2) (hz : (kf : Int) = kz) (hq : Cond.fieldLink y.cls idx ref (T kf).2.1 (T kf).2.2.1 ∈ lw_all) (hre : ref = (T kf).1) (hx : h.1 x = ci) (hv : h.2.2.2 x kz = r) (dg : decode cc pc = .ok (.getfield idx, 3))
    (k : rr_R G y cc nL ret d mc ms Q (pc + 3) ls (vR r :: st) h nx cu su) : rr_R G y cc nL ret d mc ms Q pc ls (vR (some x) :: st) h nx cu su :=
  x_getV hc h0 hk (Or.inl hq) hre hx (by rw [hz, hv]; exact rr_fv_r G hf _ _) dg k
theorem x_getJ {ci kf idx N x : Nat} {C ref : String} {T : u_T} (kz : Int) (hc : rr_cl[ci]? = some (C, T, N)) (h0 : ci ≠ 0) (hk : kf < N) (hf : rr_fk (rr_ty ci kf) = 1) (hz : (kf : Int) = kz) (hq : Cond.fieldLink y.cls idx ref (T kf).2.1 (T kf).2.2.1 ∈ lw_all) (hre : ref = (T kf).1) (hx : h.1 x = ci) (dg : decode cc pc = .ok (.getfield idx, 3))
    (k : rr_R G y cc nL ret d mc ms Q (pc + 3) ls (vJ (h.2.2.1 x kz) :: st) h nx cu su) : rr_R G y cc nL ret d mc ms Q pc ls (vR (some x) :: st) h nx cu su :=
  x_getV hc h0 hk (Or.inl hq) hre hx (by rw [hz]; exact rr_fv_j G hf _ _) dg k
/-- a field of a class is written in the picture -/
theorem rr_obj_set {s : State} {args : Array Value} {H H' : Heap} {ci kf N x : Nat} {C : String} {T : u_T} {h h' : rr_H} (hc : rr_cl[ci]? = some (C, T, N)) (h0 : ci ≠ 0) (hvm : rr_vm G s) (hts : ∀ w ∈ lw_all, w.before args s = true) (hr : rr_rel G h nx H) (hx : h.1 x = ci) (hx3 : 300 ≤ x) (hk : kf < N) {v : Value} {cell : Cell} (q1 : H[rr_ad G x]? = some cell)
    (e1 : H'[rr_ad G x]? = some (cell.setSlot (G.2.2.2.2.1 ci kf) v)) (z : H'.size = H.size) (oq : ∀ q, q ≠ rr_ad G x → H'[q]? = H[q]?)
    (h1 : h'.1 = h.1) (h2 : h'.2.1 = h.2.1) (h3 : ∀ y, y ≠ x → h'.2.2.1 y = h.2.2.1 y) (h4 : ∀ y, y ≠ x → h'.2.2.2 y = h.2.2.2 y)
    (hv : rr_fv G (rr_ty ci kf) (h'.2.2.1 x kf) (h'.2.2.2 x kf) = v) (ho : ∀ j : Nat, j ≠ kf → h'.2.2.1 x j = h.2.2.1 x j ∧ h'.2.2.2 x j = h.2.2.2 x j) : rr_rel G h' nx H' := by
  obtain ⟨k1, k2, k3, k4, k5⟩ := rr_ckn ci _ hc
  have hap := va_apart (own := C) (D := (G.2.2.2.1, G.2.2.2.2.1)) hts k1 (rr_ty ci) k2 k3 hvm.1 hc
  obtain ⟨cell2, r1, r2, r3, r4⟩ := hr.obj hc h0 hx
  cases q1.symm.trans r1
  refine hr.set hx3 (by rw [hx]; exact h0) z oq h1 h2 h3 h4 ?_
  unfold rr_cel
  rw [h1, hx, if_pos k5, k4]
  refine ⟨_, e1, r2, r3, fun j hj => ?_⟩
  have hlt : (G.2.2.2.2.1 ci kf) < cell.slots.size := k2_hasslot (r4 kf hk)
  by_cases hjk : j = kf
  · subst hjk
    show (cell.setSlot (G.2.2.2.2.1 ci j) v).slots[G.2.2.2.2.1 ci j]? = some (rr_fv G (rr_ty ci j) (h'.2.2.1 x j) (h'.2.2.2 x j))
    rw [hv]
    simp [Cell.setSlot, hlt]
  · show (cell.setSlot (G.2.2.2.2.1 ci kf) v).slots[G.2.2.2.2.1 ci j]? = some (rr_fv G (rr_ty ci j) (h'.2.2.1 x j) (h'.2.2.2 x j))
    rw [slot_ne _ _ (fun q => hap j kf hj hk hjk q.symm), (ho j hjk).1, (ho j hjk).2]
    exact r4 j hj
theorem x_putV {ci kf idx N x : Nat} {C ref : String} {T : u_T} {v : rr_V} {h' : rr_H} (hc : rr_cl[ci]? = some (C, T, N)) (h0 : ci ≠ 0) (hk : kf < N) (hq : Cond.fieldLink y.cls idx ref (T kf).2.1 (T kf).2.2.1 ∈ lw_all ∨ ∃ host, Cond.fieldLinkNest y.cls idx ref (T kf).2.1 (T kf).2.2.1 host ∈ rr_xs) (hre : ref = (T kf).1) (hx : h.1 x = ci) (hx3 : 300 ≤ x)
    (hfin : (T kf).2.2.2 = false ∨ ((T kf).2.2.2 = true ∧ (T kf).1 = y.cls ∧ y.name = "<init>")) (hn : narrow (rr_ty ci kf) (rr_g G v) = rr_g G v) (hfit : fits (rr_ty ci kf) (rr_g G v) = true)
    (h1 : h'.1 = h.1) (h2 : h'.2.1 = h.2.1) (h3 : ∀ y, y ≠ x → h'.2.2.1 y = h.2.2.1 y) (h4 : ∀ y, y ≠ x → h'.2.2.2 y = h.2.2.2 y)
    (hv : rr_fv G (rr_ty ci kf) (h'.2.2.1 x kf) (h'.2.2.2 x kf) = rr_g G v) (ho : ∀ j : Nat, j ≠ kf → h'.2.2.1 x j = h.2.2.1 x j ∧ h'.2.2.2 x j = h.2.2.2 x j)
    (dg : decode cc pc = .ok (.putfield idx, 3)) (k : rr_R G y cc nL ret d mc ms Q (pc + 3) ls st h' nx cu su) : rr_R G y cc nL ret d mc ms Q pc ls (v :: vR (some x) :: st) h nx cu su := by
  intro p e s m args below meth c H locs la hC hr hS hL
  obtain ⟨cell, q1, q2, q3, q4⟩ := hr.obj hc h0 hx
  have hvm := hC.2.2.2.2.2.2.2.2.1
  have hts := hC.2.2.2.2.2.1
  obtain ⟨hS1, hfc, kC, hkC, hkind⟩ := hvm.1.1 ci _ hc
  obtain ⟨cf, kf1, fi, f, hi, hsl⟩ := hS1 kf hk
  have hl := u_lays hts (rr_ckn ci _ hc).1 hk
  have hst := (u_facts hfc hkC hl hi).1
  have h6 := u_fits (s := s) hfc hkC hkind hl hi ((rr_ckn ci _ hc).2.1 kf hk) hn hfit
  have hsl : f.slot = G.2.2.2.2.1 ci kf := hsl
  have hlt : f.slot < cell.slots.size := by rw [hsl]; exact k2_hasslot (q4 kf hk)
  subst hre
  have ha : rr_ad G x < H.size := (Array.getElem?_eq_some_iff.mp q1).1
  have hfin2 : hasFlag f.accessFlags Acc.final = false ∨ (m.cls = cf ∧ meth.name = "<init>") := by
    rcases hfin with hf | ⟨hff, hf, hn2⟩
    · left
      have hlay := hts _ ((rr_ckn ci _ hc).1 _ (u_in_lay hk))
      unfold u_lay at hlay
      rw [if_neg (by show ¬ (T kf).2.2.2 = true; rw [hf]; decide)] at hlay
      exact (u_store (s := s) hfc hkC hkind hlay hi ((rr_ckn ci _ hc).2.1 kf hk) hn hfit).1
    · right
      refine ⟨?_, by rw [hC.2.2.2.2.2.2.2.1]; exact hn2⟩
      have hlay := hts _ ((rr_ckn ci _ hc).1 _ (u_in_lay hk))
      unfold u_lay at hlay
      rw [if_pos hff] at hlay
      obtain ⟨_, _, c', _, _, _, -, -, hf', -, -, -, hown2, -⟩ := Cond.laysFinal_spec hlay
      have e1 : c' = cf := by have := hi.symm.trans hf'; simp at this; exact this.1.symm
      have hown2 : s.vm.findClass y.cls = some c' := by rw [← hf]; exact hown2
      rw [← e1]
      exact Option.some.inj (hC.2.2.2.2.1.symm.trans hown2)
  rcases hq with hq | ⟨host, hq⟩
  · refine W.putf hC.1 hC.2.1 hC.2.2.2.2.1 (hts _ hq) hi hst hfin2 q1 (by rw [q3]; exact fun h => by cases h) hlt h6.1 (by rw [q3, q2]; exact h6.2) rfl rfl dg ?_
    have e1 : (H.setIfInBounds (rr_ad G x) (cell.setSlot f.slot (rr_g G v)))[rr_ad G x]? = some (cell.setSlot (G.2.2.2.2.1 ci kf) (rr_g G v)) := by rw [← hsl]; simp [ha]
    have z : (H.setIfInBounds (rr_ad G x) (cell.setSlot f.slot (rr_g G v))).size = H.size := by simp
    have oq : ∀ q, q ≠ rr_ad G x → (H.setIfInBounds (rr_ad G x) (cell.setSlot f.slot (rr_g G v)))[q]? = H[q]? := fun q hq => by rw [Array.getElem?_setIfInBounds_ne (Ne.symm hq)]
    exact k p e s m args below meth c _ _ la hC (rr_obj_set hc h0 hvm hts hr hx hx3 hk q1 e1 z oq h1 h2 h3 h4 hv ho) (hS.put z oq (hr.own hx3 (by rw [hx]; exact h0))) hL
  · refine va_Wputf hC.1 hC.2.1 hC.2.2.2.2.1 (va_Nw.use rfl (hvm.2.1 _ hq)) hi hst hfin2 q1 (by rw [q3]; exact fun h => by cases h) hlt h6.1 (by rw [q3, q2]; exact h6.2) rfl rfl dg ?_
    have e1 : (H.setIfInBounds (rr_ad G x) (cell.setSlot f.slot (rr_g G v)))[rr_ad G x]? = some (cell.setSlot (G.2.2.2.2.1 ci kf) (rr_g G v)) := by rw [← hsl]; simp [ha]
    have z : (H.setIfInBounds (rr_ad G x) (cell.setSlot f.slot (rr_g G v))).size = H.size := by simp
    have oq : ∀ q, q ≠ rr_ad G x → (H.setIfInBounds (rr_ad G x) (cell.setSlot f.slot (rr_g G v)))[q]? = H[q]? := fun q hq => by rw [Array.getElem?_setIfInBounds_ne (Ne.symm hq)]
    exact k p e s m args below meth c _ _ la hC (rr_obj_set hc h0 hvm hts hr hx hx3 hk q1 e1 z oq h1 h2 h3 h4 hv ho) (hS.put z oq (hr.own hx3 (by rw [hx]; exact h0))) hL
theorem rr_x {w : Cond} (h : w ∈ lw_tbl) (g : rr_xk w = true) : w ∈ rr_xs := List.mem_filter.mpr ⟨h, g⟩
theorem x_getIN {ci kf idx N x : Nat} {C ref host : String} {T : u_T} (kz : Int) (hc : rr_cl[ci]? = some (C, T, N)) (h0 : ci ≠ 0) (hk : kf < N) (hf : rr_fk (rr_ty ci kf) = 0) (hz : (kf : Int) = kz) (hq : Cond.fieldLinkNest y.cls idx ref (T kf).2.1 (T kf).2.2.1 host ∈ lw_tbl) (hre : ref = (T kf).1) (hx : h.1 x = ci) (dg : decode cc pc = .ok (.getfield idx, 3))
    (k : rr_R G y cc nL ret d mc ms Q (pc + 3) ls (vI (h.2.2.1 x kz) :: st) h nx cu su) : rr_R G y cc nL ret d mc ms Q pc ls (vR (some x) :: st) h nx cu su :=
  x_getV hc h0 hk (Or.inr ⟨host, rr_x hq rfl⟩) hre hx (by rw [hz]; exact rr_fv_i G hf _ _) dg k
theorem x_getRN {ci kf idx N x : Nat} {C ref host : String} {T : u_T} (kz : Int) {r : Option Nat} (hc : rr_cl[ci]? = some (C, T, N)) (h0 : ci ≠ 0) (hk : kf < N) (hf : rr_fk (rr_ty ci kf) = 2) (hz : (kf : Int) = kz) (hq : Cond.fieldLinkNest y.cls idx ref (T kf).2.1 (T kf).2.2.1 host ∈ lw_tbl) (hre : ref = (T kf).1) (hx : h.1 x = ci) (hv : h.2.2.2 x kz = r) (dg : decode cc pc = .ok (.getfield idx, 3))
    (k : rr_R G y cc nL ret d mc ms Q (pc + 3) ls (vR r :: st) h nx cu su) : rr_R G y cc nL ret d mc ms Q pc ls (vR (some x) :: st) h nx cu su :=
  x_getV hc h0 hk (Or.inr ⟨host, rr_x hq rfl⟩) hre hx (by rw [hz, hv]; exact rr_fv_r G hf _ _) dg k
theorem x_putI {ci kf idx N x : Nat} {C ref : String} {T : u_T} {v : Int} (kz : Int) (hc : rr_cl[ci]? = some (C, T, N)) (h0 : ci ≠ 0) (hk : kf < N) (hf : rr_fk (rr_ty ci kf) = 0) (hz : (kf : Int) = kz) (hq : Cond.fieldLink y.cls idx ref (T kf).2.1 (T kf).2.2.1 ∈ lw_all ∨ ∃ host, Cond.fieldLinkNest y.cls idx ref (T kf).2.1 (T kf).2.2.1 host ∈ rr_xs) (hre : ref = (T kf).1) (hx : h.1 x = ci) (hx3 : 300 ≤ x)
    (hfin : (T kf).2.2.2 = false ∨ ((T kf).2.2.2 = true ∧ (T kf).1 = y.cls ∧ y.name = "<init>")) (hn : rr_nar (rr_ty ci kf) v) (dg : decode cc pc = .ok (.putfield idx, 3))
    (k : rr_R G y cc nL ret d mc ms Q (pc + 3) ls st (rr_sI h x kz v) nx cu su) : rr_R G y cc nL ret d mc ms Q pc ls (vI v :: vR (some x) :: st) h nx cu su := by
  subst hz
  refine x_putV (h' := rr_sI h x kf v) hc h0 hk hq hre hx hx3 hfin hn.1 hn.2 rfl rfl ?_ (fun _ _ => rfl) ?_ ?_ dg k
  · intro q hq
    funext j
    exact rr_u2_ne _ _ (fun z => hq z.1)
  · rw [rr_fv_i G hf]
    show Value.int (Int32.ofInt (rr_u2 h.2.2.1 x kf v x kf)) = _
    rw [rr_u2_same]
    rfl
  · intro j hj
    exact ⟨rr_u2_ne _ _ (fun z => hj (by omega)), rfl⟩
theorem x_putR {ci kf idx N x : Nat} {C ref : String} {T : u_T} {r : Option Nat} (kz : Int) (hc : rr_cl[ci]? = some (C, T, N)) (h0 : ci ≠ 0) (hk : kf < N) (hf : rr_fk (rr_ty ci kf) = 2) (hz : (kf : Int) = kz) (hq : Cond.fieldLink y.cls idx ref (T kf).2.1 (T kf).2.2.1 ∈ lw_all ∨ ∃ host, Cond.fieldLinkNest y.cls idx ref (T kf).2.1 (T kf).2.2.1 host ∈ rr_xs) (hre : ref = (T kf).1) (hx : h.1 x = ci) (hx3 : 300 ≤ x)
    (hfin : (T kf).2.2.2 = false ∨ ((T kf).2.2.2 = true ∧ (T kf).1 = y.cls ∧ y.name = "<init>")) (dg : decode cc pc = .ok (.putfield idx, 3))
    (k : rr_R G y cc nL ret d mc ms Q (pc + 3) ls st (rr_sR h x kz r) nx cu su) : rr_R G y cc nL ret d mc ms Q pc ls (vR r :: vR (some x) :: st) h nx cu su := by
  subst hz
  have hna : narrow (rr_ty ci kf) (rr_g G (vR r)) = rr_g G (vR r) ∧ fits (rr_ty ci kf) (rr_g G (vR r)) = true := by
    generalize rr_ty ci kf = ty at hf
    cases ty <;> first | (simp [rr_fk] at hf; done) | (cases r <;> exact ⟨rfl, rfl⟩)
  refine x_putV (h' := rr_sR h x kf r) hc h0 hk hq hre hx hx3 hfin hna.1 hna.2 rfl rfl (fun _ _ => rfl) ?_ ?_ ?_ dg k
  · intro q hq
    funext j
    exact rr_u2_ne _ _ (fun z => hq z.1)
  · rw [rr_fv_r G hf]
    show va_rf (Option.map (rr_ad G) (rr_u2 h.2.2.2 x kf r x kf)) = _
    rw [rr_u2_same]
    rfl
  · intro j hj
    exact ⟨rfl, rr_u2_ne _ _ (fun z => hj (by omega))⟩
theorem x_putJ {ci kf idx N x : Nat} {C ref : String} {T : u_T} {v : Int} (kz : Int) (hc : rr_cl[ci]? = some (C, T, N)) (h0 : ci ≠ 0) (hk : kf < N) (hf : rr_ty ci kf = .long) (hz : (kf : Int) = kz) (hq : Cond.fieldLink y.cls idx ref (T kf).2.1 (T kf).2.2.1 ∈ lw_all ∨ ∃ host, Cond.fieldLinkNest y.cls idx ref (T kf).2.1 (T kf).2.2.1 host ∈ rr_xs) (hre : ref = (T kf).1) (hx : h.1 x = ci) (hx3 : 300 ≤ x)
    (hfin : (T kf).2.2.2 = false ∨ ((T kf).2.2.2 = true ∧ (T kf).1 = y.cls ∧ y.name = "<init>")) (dg : decode cc pc = .ok (.putfield idx, 3))
    (k : rr_R G y cc nL ret d mc ms Q (pc + 3) ls st (rr_sI h x kz v) nx cu su) : rr_R G y cc nL ret d mc ms Q pc ls (vJ v :: vR (some x) :: st) h nx cu su := by
  subst hz
  refine x_putV (h' := rr_sI h x kf v) hc h0 hk hq hre hx hx3 hfin (by rw [hf]; rfl) (by rw [hf]; rfl) rfl rfl ?_ (fun _ _ => rfl) ?_ ?_ dg k
  · intro q hq
    funext j
    exact rr_u2_ne _ _ (fun z => hq z.1)
  · rw [hf]
    show Value.long (Int64.ofInt (rr_u2 h.2.2.1 x kf v x kf)) = _
    rw [rr_u2_same]
    rfl
  · intro j hj
    exact ⟨rr_u2_ne _ _ (fun z => hj (by omega)), rfl⟩
/-! arrays -/
theorem rr_idx {i : Int} {n : Nat} (hi : 0 ≤ i ∧ i < (n : Int)) (h3 : i < 2147483648) : ¬ (Int32.ofInt i < 0 ∨ n ≤ (Int32.ofInt i).toNatClampNeg) ∧ (Int32.ofInt i).toNatClampNeg = i.toNat ∧ i.toNat < n ∧ ((i.toNat : Nat) : Int) = i := by
  have h1 := rr_clamp hi.1 h3
  refine ⟨fun q => ?_, h1, by omega, by omega⟩
  rcases q with q | q
  · rw [rr_0, rr_lt_iff (by omega) (by omega)] at q
    omega
  · rw [h1] at q
    omega
theorem rr_aof {s : State} {t : Nat} {ty : FieldType} (hvm : rr_vm G s) (ht : rr_al[t]? = some ty) (n : Nat) (z : Nat → Value) : s.isArrayOf (arrV (G.2.2.2.2.2 t) n z) ty := (hvm.1.2 t _ (rr_tys_at G ht)).1 n z
theorem x_alen {x t n : Nat} {ty : FieldType} (hx : h.1 x = 64 + t) (ht : rr_al[t]? = some ty) (hn : h.2.1 x = n) (dg : decode cc pc = .ok (.arraylength, 1)) (k : rr_R G y cc nL ret d mc ms Q (pc + 1) ls (vI (n : Int) :: st) h nx cu su) : rr_R G y cc nL ret d mc ms Q pc ls (vR (some x) :: st) h nx cu su := by
  intro p e s m args below meth c H locs la hC hr hS hL
  have hcell := hr.arr hx
  refine W.alen (ty := ty) hC.1 hC.2.1 hcell (rr_aof hC.2.2.2.2.2.2.2.2.1 ht _ _) ?_ rfl rfl dg (k p e s m args below meth c H locs la hC hr hS hL)
  rw [arrV_size, hn]
  show Int32.ofNat n = Int32.ofInt (n : Int)
  exact (Int32.ofInt_eq_ofNat).symm
theorem x_iald {x n : Nat} {i : Int} (hx : h.1 x = 64) (hn : h.2.1 x = n) (hi : 0 ≤ i ∧ i < (n : Int)) (h3 : i < 2147483648) (dg : decode cc pc = .ok (.iaload, 1)) (k : rr_R G y cc nL ret d mc ms Q (pc + 1) ls (vI (h.2.2.1 x i) :: st) h nx cu su) : rr_R G y cc nL ret d mc ms Q pc ls (vI i :: vR (some x) :: st) h nx cu su := by
  intro p e s m args below meth c H locs la hC hr hS hL
  have hcell := hr.arr (t := 0) hx
  obtain ⟨i1, i2, i3, i4⟩ := rr_idx hi h3
  refine W.iald (v := .int (Int32.ofInt (h.2.2.1 x i))) hC.1 hC.2.1 hcell (rr_aof hC.2.2.2.2.2.2.2.2.1 (t := 0) rfl _ _) (fun q => by cases q) (by rw [arrV_size, hn]; exact i1) ?_ rfl rfl dg (k p e s m args below meth c H locs la hC hr hS hL)
  rw [i2, arrV_read _ _ (by rw [hn]; exact i3), i4, rr_fv_i G (show rr_fk (rr_et 0) = 0 from rfl)]
theorem x_bald {x n : Nat} {i : Int} (hx : h.1 x = 65) (hn : h.2.1 x = n) (hi : 0 ≤ i ∧ i < (n : Int)) (h3 : i < 2147483648) (dg : decode cc pc = .ok (.baload, 1)) (k : rr_R G y cc nL ret d mc ms Q (pc + 1) ls (vI (h.2.2.1 x i) :: st) h nx cu su) : rr_R G y cc nL ret d mc ms Q pc ls (vI i :: vR (some x) :: st) h nx cu su := by
  intro p e s m args below meth c H locs la hC hr hS hL
  have hcell := hr.arr (t := 1) hx
  obtain ⟨i1, i2, i3, i4⟩ := rr_idx hi h3
  refine W.bald (v := .int (Int32.ofInt (h.2.2.1 x i))) hC.1 hC.2.1 hcell (rr_aof hC.2.2.2.2.2.2.2.2.1 (t := 1) rfl _ _) (fun q => by cases q) (by rw [arrV_size, hn]; exact i1) ?_ rfl rfl dg (k p e s m args below meth c H locs la hC hr hS hL)
  rw [i2, arrV_read _ _ (by rw [hn]; exact i3), i4, rr_fv_i G (show rr_fk (rr_et 1) = 0 from rfl)]
theorem x_zald {x n : Nat} {i : Int} (hx : h.1 x = 66) (hn : h.2.1 x = n) (hi : 0 ≤ i ∧ i < (n : Int)) (h3 : i < 2147483648) (dg : decode cc pc = .ok (.baload, 1)) (k : rr_R G y cc nL ret d mc ms Q (pc + 1) ls (vI (h.2.2.1 x i) :: st) h nx cu su) : rr_R G y cc nL ret d mc ms Q pc ls (vI i :: vR (some x) :: st) h nx cu su := by
  intro p e s m args below meth c H locs la hC hr hS hL
  have hcell := hr.arr (t := 2) hx
  obtain ⟨i1, i2, i3, i4⟩ := rr_idx hi h3
  refine W.zald (v := .int (Int32.ofInt (h.2.2.1 x i))) hC.1 hC.2.1 hcell (rr_aof hC.2.2.2.2.2.2.2.2.1 (t := 2) rfl _ _) (fun q => by cases q) (by rw [arrV_size, hn]; exact i1) ?_ rfl rfl dg (k p e s m args below meth c H locs la hC hr hS hL)
  rw [i2, arrV_read _ _ (by rw [hn]; exact i3), i4, rr_fv_i G (show rr_fk (rr_et 2) = 0 from rfl)]
theorem x_aald {x n t : Nat} {i : Int} {ty : FieldType} {r : Option Nat} (hx : h.1 x = 64 + t) (ht : rr_al[t]? = some ty) (hf : ty.isReference = true) (hf2 : rr_fk ty = 2) (hn : h.2.1 x = n) (hi : 0 ≤ i ∧ i < (n : Int)) (h3 : i < 2147483648) (hv : h.2.2.2 x i = r) (dg : decode cc pc = .ok (.aaload, 1)) (k : rr_R G y cc nL ret d mc ms Q (pc + 1) ls (vR r :: st) h nx cu su) : rr_R G y cc nL ret d mc ms Q pc ls (vI i :: vR (some x) :: st) h nx cu su := by
  intro p e s m args below meth c H locs la hC hr hS hL
  have hcell := hr.arr hx
  obtain ⟨i1, i2, i3, i4⟩ := rr_idx hi h3
  refine W.aald (v := rr_g G (vR r)) (ty := ty) hC.1 hC.2.1 hcell (rr_aof hC.2.2.2.2.2.2.2.2.1 ht _ _) hf (fun q => by cases q) (by rw [arrV_size, hn]; exact i1) ?_ rfl rfl dg (k p e s m args below meth c H locs la hC hr hS hL)
  rw [i2, arrV_read _ _ (by rw [hn]; exact i3), i4, hv, rr_et_of ht, rr_fv_r G hf2]
  rfl
theorem rr_arr_setI {H H' : Heap} {x t n : Nat} {i v : Int} (hr : rr_rel G h nx H) (hx : h.1 x = 64 + t) (hx3 : 300 ≤ x) (hf : rr_fk (rr_et t) = 0) (hi : 0 ≤ i ∧ i < (n : Int))
    (e1 : H'[rr_ad G x]? = some ((arrV (G.2.2.2.2.2 t) (h.2.1 x) (fun j => rr_fv G (rr_et t) (h.2.2.1 x j) (h.2.2.2 x j))).setSlot i.toNat (.int (Int32.ofInt v)))) (z : H'.size = H.size) (oq : ∀ q, q ≠ rr_ad G x → H'[q]? = H[q]?) : rr_rel G (rr_sI h x i v) nx H' := by
  refine hr.set hx3 (by rw [hx]; omega) z oq rfl rfl ?_ (fun _ _ => rfl) ?_
  · intro q hq
    funext j
    exact rr_u2_ne _ _ (fun z => hq z.1)
  · have hx' : (rr_sI h x i v).1 x = 64 + t := hx
    unfold rr_cel
    rw [hx', if_neg (by omega), Nat.add_sub_cancel_left, e1, arrV_store]
    show _ = some (arrV _ (h.2.1 x) _)
    congr 2
    funext j
    rw [rr_fv_i G hf]
    unfold updV
    by_cases hj : j = i.toNat
    · rw [if_pos hj]
      have : (j : Int) = i := by omega
      show _ = Value.int (Int32.ofInt (rr_u2 h.2.2.1 x i v x j))
      rw [this, rr_u2_same]
    · rw [if_neg hj]
      show _ = Value.int (Int32.ofInt (rr_u2 h.2.2.1 x i v x j))
      rw [rr_u2_ne _ _ (fun q => hj (by omega))]
      exact rr_fv_i G hf _ _
theorem x_iast {x n : Nat} {i v : Int} (hx : h.1 x = 64) (hx3 : 300 ≤ x) (hn : h.2.1 x = n) (hi : 0 ≤ i ∧ i < (n : Int)) (h3 : i < 2147483648) (dg : decode cc pc = .ok (.iastore, 1)) (k : rr_R G y cc nL ret d mc ms Q (pc + 1) ls st (rr_sI h x i v) nx cu su) : rr_R G y cc nL ret d mc ms Q pc ls (vI v :: vI i :: vR (some x) :: st) h nx cu su := by
  intro p e s m args below meth c H locs la hC hr hS hL
  have hcell := hr.arr (t := 0) hx
  obtain ⟨i1, i2, i3, i4⟩ := rr_idx hi h3
  refine W.iast hC.1 hC.2.1 hcell (rr_aof hC.2.2.2.2.2.2.2.2.1 (t := 0) rfl _ _) (fun q => by cases q) (by rw [arrV_size, hn]; exact i1) rfl rfl dg fun H' e1 z oq => ?_
  rw [i2] at e1
  exact k p e s m args below meth c H' _ la hC (rr_arr_setI hr (t := 0) hx hx3 rfl hi e1 z oq) (hS.put z oq (hr.own hx3 (by rw [hx]; decide))) hL
theorem x_bast {x n : Nat} {i v : Int} (hx : h.1 x = 65) (hx3 : 300 ≤ x) (hn : h.2.1 x = n) (hi : 0 ≤ i ∧ i < (n : Int)) (h3 : i < 2147483648) (hv : -128 ≤ v ∧ v < 128) (dg : decode cc pc = .ok (.bastore, 1)) (k : rr_R G y cc nL ret d mc ms Q (pc + 1) ls st (rr_sI h x i v) nx cu su) : rr_R G y cc nL ret d mc ms Q pc ls (vI v :: vI i :: vR (some x) :: st) h nx cu su := by
  intro p e s m args below meth c H locs la hC hr hS hL
  have hcell := hr.arr (t := 1) hx
  obtain ⟨i1, i2, i3, i4⟩ := rr_idx hi h3
  refine W.bast hC.1 hC.2.1 hcell (rr_aof hC.2.2.2.2.2.2.2.2.1 (t := 1) rfl _ _) (fun q => by cases q) (by rw [arrV_size, hn]; exact i1) rfl rfl dg fun H' e1 z oq => ?_
  rw [i2, (rr_nar_b hv).1] at e1
  exact k p e s m args below meth c H' _ la hC (rr_arr_setI hr (t := 1) hx hx3 rfl hi e1 z oq) (hS.put z oq (hr.own hx3 (by rw [hx]; decide))) hL
theorem x_zast {x n : Nat} {i v : Int} (hx : h.1 x = 66) (hx3 : 300 ≤ x) (hn : h.2.1 x = n) (hi : 0 ≤ i ∧ i < (n : Int)) (h3 : i < 2147483648) (hv : v = 0 ∨ v = 1) (dg : decode cc pc = .ok (.bastore, 1)) (k : rr_R G y cc nL ret d mc ms Q (pc + 1) ls st (rr_sI h x i v) nx cu su) : rr_R G y cc nL ret d mc ms Q pc ls (vI v :: vI i :: vR (some x) :: st) h nx cu su := by
  intro p e s m args below meth c H locs la hC hr hS hL
  have hcell := hr.arr (t := 2) hx
  obtain ⟨i1, i2, i3, i4⟩ := rr_idx hi h3
  refine W.zast hC.1 hC.2.1 hcell (rr_aof hC.2.2.2.2.2.2.2.2.1 (t := 2) rfl _ _) (fun q => by cases q) (by rw [arrV_size, hn]; exact i1) rfl rfl dg fun H' e1 z oq => ?_
  rw [i2, (rr_nar_z hv).1] at e1
  exact k p e s m args below meth c H' _ la hC (rr_arr_setI hr (t := 2) hx hx3 rfl hi e1 z oq) (hS.put z oq (hr.own hx3 (by rw [hx]; decide))) hL
end RULES
