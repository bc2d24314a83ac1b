set_option maxRecDepth 100000
/-! THE MODEL's methods, 15: all is laid -/
/-- contracts of methods that answer, and of what holds behind -/
def mQ (y : MethodName) (cc : ByteArray) (nL : Nat) (ret : Option FieldType) (d : Nat) (as : List rr_V) (I : Nat → Int → Int) (F : Int → (Nat → Int → Int) → Prop) : Prop :=
  ∀ (G : rr_G) (nx : Nat), rr_Cn G y cc nL ret d 0 0 as (mh I) nx (fun r2 h2 n2 => ∃ z, r2 = some (vI z) ∧ n2 = nx ∧ ∃ I', h2 = mh I' ∧ F z I')
abbrev mq (G : rr_G) (y : MethodName) (cc : ByteArray) (nL : Nat) (ret : Option FieldType) (d nx : Nat) (F : Int → (Nat → Int → Int) → Prop) (pc : Nat) (ls : List (Option rr_V)) (st : List rr_V) (I : Nat → Int → Int) : Prop :=
  rr_R G y cc nL ret d 0 0 (rr_N G 0 0 (fun r2 h2 n2 => ∃ z, r2 = some (vI z) ∧ n2 = nx ∧ ∃ I', h2 = mh I' ∧ F z I')) pc ls st (mh I) nx 0 0
theorem mQ.of {y : MethodName} {cc : ByteArray} {nL : Nat} {ret : Option FieldType} {d : Nat} {as : List rr_V} {I : Nat → Int → Int} {F : Int → (Nat → Int → Int) → Prop} (hy : plainName y.cls = true) (ha : (as.map some).all rr_nj = true) (hn : as.length ≤ nL)
    (k : ∀ (G : rr_G) (nx : Nat), mq G y cc nL ret d nx F 0 (as.map some ++ List.replicate (nL - as.length) none) [] I) : mQ y cc nL ret d as I F := fun G nx => rr_entry hy ha hn (k G nx)
theorem mQ.mono {y : MethodName} {cc : ByteArray} {nL : Nat} {ret : Option FieldType} {d : Nat} {as : List rr_V} {I : Nat → Int → Int} {F F' : Int → (Nat → Int → Int) → Prop} (h : mQ y cc nL ret d as I F) (hF : F = F') : mQ y cc nL ret d as I F' := hF ▸ h
theorem rowS_in (I : Nat → Int → Int) (w : Int) (left : Prop) [Decidable left] {k : Nat} : ∀ n : Nat, k < n → plc I w left k ≠ -1 → I 371 (plc I w left k) ∈ rowS I w left n := by
  intro n
  induction n with
  | zero => intro h; omega
  | succ n ih =>
    intro h1 h2
    simp only [rowS, List.mem_append]
    by_cases e : k = n
    · subst e
      right
      rw [if_neg h2]
      simp
    · exact Or.inl (ih (by omega) h2)
theorem rowS_mem (I : Nat → Int → Int) (w : Int) (left : Prop) [Decidable left] {c : Int} : ∀ n : Nat, c ∈ rowS I w left n → ∃ k : Nat, k < n ∧ plc I w left k ≠ -1 ∧ c = I 371 (plc I w left k) := by
  intro n
  induction n with
  | zero => intro h; simp [rowS] at h
  | succ n ih =>
    intro h
    simp only [rowS, List.mem_append] at h
    rcases h with h | h
    · obtain ⟨k, h1, h2⟩ := ih h
      exact ⟨k, by omega, h2⟩
    · by_cases e : plc I w left n = -1
      · rw [if_pos e] at h; simp at h
      · rw [if_neg e] at h
        simp only [List.mem_singleton] at h
        exact ⟨n, by omega, e, h⟩
theorem rowL_ok {I : Nat → Int → Int} {w : Int} (h : RowOK I w) (h4 : I 360 4 ≤ 20) (hs : SgOK I) (left : Prop) [Decidable left] : (1 ≤ (rowL I w left).length ∧ (rowL I w left).length ≤ 10) ∧ ∀ c ∈ rowL I w left, 0 ≤ c ∧ c < 20 := by
  have h1 := h.1
  refine ⟨⟨?_, rowL_len h left⟩, fun c hc => ?_⟩
  · obtain ⟨k, hk, hne⟩ := h.2.2
    by_cases e : left
    · have := rowS_in I w left (k := (I 365 w - 1 - k).toNat) (I 365 w).toNat (by omega) (by
        unfold plc
        rw [if_pos e, show I 365 w - 1 - (((I 365 w - 1 - k).toNat : Nat) : Int) = k by omega]
        exact hne)
      exact List.length_pos_of_mem this
    · have := rowS_in I w left (k := k.toNat) (I 365 w).toNat (by omega) (by
        unfold plc
        rw [if_neg e, show ((k.toNat : Nat) : Int) = k by omega]
        exact hne)
      exact List.length_pos_of_mem this
  · obtain ⟨k, hk, hne, rfl⟩ := rowS_mem I w left _ hc
    have hp : -1 ≤ plc I w left k ∧ plc I w left k < I 360 4 := by
      unfold plc
      split
      · exact h.2.1 _ (by omega) (by omega)
      · exact h.2.1 _ (by omega) (by omega)
    have := hs (plc I w left k) (by omega) hp.2
    omega
theorem rowsT_all {I : Nat → Int → Int} (h : StOK I) (hs : SgOK I) (b : Int) {t : Nat} (ht : (t : Int) < I 360 8) : ∀ l ∈ rowsT I b t, (1 ≤ l.length ∧ l.length ≤ 10) ∧ ∀ c ∈ l, 0 ≤ c ∧ c < 20 := by
  intro l hl
  simp only [rowsT, List.mem_map, List.mem_range] at hl
  obtain ⟨r, hr, rfl⟩ := hl
  exact rowL_ok ((h.2.2 t (by omega) ht).2 r (by omega) (by omega)) h.2.1.2 hs _
theorem rowsTo_all {I : Nat → Int → Int} (h : StOK I) (hs : SgOK I) (b : Int) : ∀ t : Nat, (t : Int) ≤ I 360 8 → ∀ l ∈ rowsTo I b t, (1 ≤ l.length ∧ l.length ≤ 10) ∧ ∀ c ∈ l, 0 ≤ c ∧ c < 20 := by
  intro t
  induction t with
  | zero => intro _ l hl; simp [rowsTo] at hl
  | succ t ih =>
    intro ht l hl
    simp only [rowsTo, List.mem_append] at hl
    exact hl.elim (ih (by omega) l) (rowsT_all h hs b (by omega) l)
theorem RE_rows {I : Nat → Int → Int} (h : StOK I) (hs : SgOK I) : RE (mRw I (m_rows I) []) (m_rows I) := by
  have h8 := h.1
  have hl := rowsTo_ok h (m_by I) (I 360 8).toNat (by omega)
  refine ⟨mRw_rows _ _ _, fun j hj => mRw_b _ _ _ (by omega), fun i hi => ?_, by unfold m_rows; omega, rowsTo_all h hs (m_by I) _ (by omega)⟩
  have e : mRw I (m_rows I) [] 374 = wr (I 374) 0 (m_rows I).flatten := by simp [mRw]
  rw [e]
  have := wr_at (I 374) 0 (m_rows I).flatten hi
  rw [Int.zero_add] at this
  exact this
theorem cutN_len (R : List (List Int)) (rise : Int) (row : List Int) : ∀ k i, (cutN R rise row k i).length ≤ row.length - i := by
  intro k
  induction k with
  | zero => intro i; simp [cutN]
  | succ k ih =>
    intro i
    simp only [cutN]
    split
    · rename_i h
      obtain ⟨hw, -, -⟩ := wlen_spec R rise row h
      have := ih (i + wlen R rise row i)
      simp only [List.length_cons]
      omega
    · simp
theorem allW_len {R : List (List Int)} (rise : Int) (h : ∀ l ∈ R, l.length ≤ 10) : (allW R rise).length ≤ 10 * R.length := by
  unfold allW
  have key : ∀ S : List (List Int), (∀ l ∈ S, l.length ≤ 10) → (S.flatMap (cutR R rise)).length ≤ 10 * S.length := by
    intro S
    induction S with
    | nil => intro _; simp
    | cons a S ih =>
      intro hS
      have h1 := ih (fun l hl => hS l (List.mem_cons_of_mem _ hl))
      have h2 := hS a List.mem_cons_self
      have h3 := cutN_len R rise a a.length 0
      simp only [List.flatMap_cons, List.length_append, List.length_cons]
      unfold cutR
      unfold cutR at h1
      omega
  exact key R h
/-- rows depend on these arrays alone -/
theorem m_rows_eq {I J : Nat → Int → Int} (h4 : J 364 = I 364) (h5 : J 365 = I 365) (h6 : J 366 = I 366) (h9 : J 369 = I 369) (h1 : J 371 = I 371) (h8 : J 360 8 = I 360 8) : m_rows J = m_rows I := by
  have e1 : ∀ w (left : Prop) [Decidable left], rowL J w left = rowL I w left := by
    intro w left _
    have : ∀ n, rowS J w left n = rowS I w left n := by
      intro n
      induction n with
      | zero => rfl
      | succ n ih =>
        have hp : plc J w left n = plc I w left n := by unfold plc; rw [h5, h6]
        simp only [rowS]
        rw [ih, hp, h1]
    unfold rowL
    rw [this, h5]
  have e2 : ∀ b t, rowsTo J b t = rowsTo I b t := by
    intro b t
    induction t with
    | zero => rfl
    | succ t ih => simp only [rowsTo, rowsT, ih, h4, e1]
  have e3 : m_by J = m_by I := by
    have el : lft J = lft I := by funext w; unfold lft; rw [h6]
    have er : rgt J = rgt I := by funext w; unfold rgt; rw [h5, h6]
    have eg : rag J = rag I := by funext s t; unfold rag; rw [h4, el, er]
    have em : m_ragged J = m_ragged I := by funext s; unfold m_ragged; rw [eg, h8]
    have ek : endK J = endK I := by funext w s; unfold endK; rw [h5, el, er]
    have eo : m_endOf J = m_endOf I := by funext w s; unfold m_endOf; rw [h1, h6, ek]
    have es : m_endSet J = m_endSet I := by funext s; unfold m_endSet; rw [h4, h8, eo]
    have ej : m_judged J = m_judged I := by unfold m_judged; rw [em, es]
    unfold m_by
    rw [ej, h9]
  unfold m_rows
  rw [e2, e3, h8]
theorem lk_eq {I J : Nat → Int → Int} (h2 : J 362 = I 362) (h9 : J 369 = I 369) : lk J = lk I := by
  funext a b
  unfold lk m_unlikeOf m_unlikeBy m_dotOf
  rw [h2, h9]
theorem CL_eq {I J : Nat → Int → Int} (L : List (List Int × Int)) (h9 : J 369 = I 369) (h1 : J 371 = I 371) : CL J L = CL I L := by
  funext k a b
  unfold CL clT
  rw [h9, h1]
theorem knV_eq {I J : Nat → Int → Int} (h9 : J 369 = I 369) (h3 : J 383 = I 383) (h4 : J 360 4 = I 360 4) : knV J = knV I := by
  funext k f
  unfold knV gsd
  rw [h9, h3, h4]
/-- what laying asks -/
def LyOK (I : Nat → Int → Int) : Prop := StOK I ∧ (∀ j, 24 ≤ j → j < 424 → 0 ≤ I 369 j ∧ I 369 j < 3) ∧ (0 ≤ I 369 0 ∧ I 369 0 < 100) ∧ way I ∧ (1 ≤ I 369 2 ∧ I 369 2 ≤ 9) ∧ ClOK I ∧ GsOK I
noncomputable def wsI (I : Nat → Int → Int) : List (List Int) := allW (m_rows I) (I 369 2)
noncomputable def lxI (I : Nat → Int → Int) : List (List Int × Int) := lexL (wsI I)
/-- all is laid -/
def Laid (I : Nat → Int → Int) : Prop := (Least (lk I) (I 360 4) (I 371)) ∧ (I 360 19 = cnt (fun f => I 371 f = f) (I 360 4)) ∧ (SgOK I) ∧ (RE I (m_rows I)) ∧ (WE I (lxI I)) ∧ (I 360 26 = (wsI I).length) ∧ (∀ c, 0 ≤ c → c < 20 → I 379 c = cntH (wsI I) c ∧ I 380 c = cntT (wsI I) c) ∧ (CE I (CL I (lxI I))) ∧ (GrFin I (CL I (lxI I)) 0) ∧ (GrFin I (CL I (lxI I)) 1) ∧ (∀ k f, (k = 0 ∨ k = 1) → 0 ≤ f → f < I 360 4 → I 385 (20 * k + f) = knV I k f)
theorem Laid.sg {I : Nat → Int → Int} (h : Laid I) : Least (lk I) (I 360 4) (I 371) := h.1
theorem Laid.sm {I : Nat → Int → Int} (h : Laid I) : I 360 19 = cnt (fun f => I 371 f = f) (I 360 4) := h.2.1
theorem Laid.so {I : Nat → Int → Int} (h : Laid I) : SgOK I := h.2.2.1
theorem Laid.re {I : Nat → Int → Int} (h : Laid I) : RE I (m_rows I) := h.2.2.2.1
theorem Laid.we {I : Nat → Int → Int} (h : Laid I) : WE I (lxI I) := h.2.2.2.2.1
theorem Laid.wm {I : Nat → Int → Int} (h : Laid I) : I 360 26 = (wsI I).length := h.2.2.2.2.2.1
theorem Laid.ht {I : Nat → Int → Int} (h : Laid I) : ∀ c, 0 ≤ c → c < 20 → I 379 c = cntH (wsI I) c ∧ I 380 c = cntT (wsI I) c := h.2.2.2.2.2.2.1
theorem Laid.ce {I : Nat → Int → Int} (h : Laid I) : CE I (CL I (lxI I)) := h.2.2.2.2.2.2.2.1
theorem Laid.g0 {I : Nat → Int → Int} (h : Laid I) : GrFin I (CL I (lxI I)) 0 := h.2.2.2.2.2.2.2.2.1
theorem Laid.g1 {I : Nat → Int → Int} (h : Laid I) : GrFin I (CL I (lxI I)) 1 := h.2.2.2.2.2.2.2.2.2.1
theorem Laid.kn {I : Nat → Int → Int} (h : Laid I) : ∀ k f, (k = 0 ∨ k = 1) → 0 ≤ f → f < I 360 4 → I 385 (20 * k + f) = knV I k f := h.2.2.2.2.2.2.2.2.2.2
theorem Laid.wl {I : Nat → Int → Int} (h : Laid I) : (wsI I).length ≤ 240 ∧ (lxI I).length ≤ 240 := by
  have h1 := allW_len (R := m_rows I) (I 369 2) (fun l hl => (h.re.2.2.2.2 l hl).1.2)
  have h2 := h.re.2.2.2.1
  have h3 := lexL_len (wsI I)
  unfold lxI
  unfold wsI at *
  omega
abbrev DA : List Nat := [371, 373, 374, 375, 376, 377, 378, 379, 380, 382, 383, 385]
abbrev DF : List Int := [19, 23, 25, 26, 45]
def LdPost (I I' : Nat → Int → Int) : Prop := eqx I I' DA DF ∧ Laid I' ∧ I' 360 45 = 1
theorem LyOK_eqx {I J : Nat → Int → Int} {xs : List Nat} {fs : List Int} (h : LyOK I) (he : eqx I J xs fs) (h4 : 364 ∉ xs) (h5 : 365 ∉ xs) (h6 : 366 ∉ xs) (h9 : 369 ∉ xs) (f4 : (4 : Int) ∉ fs) (f8 : (8 : Int) ∉ fs) : LyOK J := by
  unfold LyOK StOK RowOK way ClOK GsOK at *
  rw [he.1 364 (by decide) h4, he.1 365 (by decide) h5, he.1 366 (by decide) h6, he.1 369 (by decide) h9, he.2 4 f4, he.2 8 f8]
  exact h
/-- laying, the numbers given -/
theorem c_lays {I : Nat → Int → Int} (h : LyOK I) (hl : I 360 45 = 0 ∨ (I 360 45 = 1 ∧ Laid I)) : mE yX4_lays cX4_lays 1 none 5 [vR (some 360)] I (LdPost I) := by
  obtain ⟨hst, h2, h3, hwy, hri, hcl, hgs⟩ := h
  have hLy : LyOK I := ⟨hst, h2, h3, hwy, hri, hcl, hgs⟩
  refine mE.of (by decide) rfl (Nat.le_of_ble_eq_true rfl) (fun G nx => ?_)
  refine x_ls (ls2 := [some (vR (some 360))]) rfl ?_
  refine x_aload_n dX4_lays_0 rfl ?_
  refine m_getI (kf := 45) 45 (by decide) rfl rfl q2160 rfl dX4_lays_1 ?_
  refine x_if_eq (t := 8) dX4_lays_4 (by decide) (by omega) (fun c_4 => ?_) (fun c_4 => ?_)
  · skip
    refine x_aload_n dX4_lays_8 rfl ?_
    refine m_ew0 (c_laysSigns hst.2.1 h2 h3) fX4_laysSigns q2402 (by decide) (Nat.le_of_ble_eq_true rfl) dX4_lays_9 (fun I1 h1 => ?_)
    have hst1 : StOK I1 := (LyOK_eqx hLy h1.1 (by decide) (by decide) (by decide) (by decide) (by decide) (by decide)).1
    have hLy1 : LyOK I1 := LyOK_eqx hLy h1.1 (by decide) (by decide) (by decide) (by decide) (by decide) (by decide)
    have hso1 := h1.ok
    refine x_aload_n dX4_lays_12 rfl ?_
    refine m_cw0 (c_laysRows hst1 hLy1.2.2.2.1) fX4_laysRows q2422 (by decide) (Nat.le_of_ble_eq_true rfl) dX4_lays_13 ?_
    refine x_aload_n dX4_lays_16 rfl ?_
    have hRE := RE_rows hst1 hso1
    have e2 : eqx I1 (mRw I1 (m_rows I1) []) [373, 374] [23] := ⟨fun x h1 h2 => mRw_a _ _ _ h1 (by simp at h2; omega) (by simp at h2; omega), fun j hj => mRw_f _ _ _ (by simpa using hj)⟩
    have hR2 : m_rows (mRw I1 (m_rows I1) []) = m_rows I1 := m_rows_eq (e2.1 364 (by decide) (by decide)) (e2.1 365 (by decide) (by decide)) (e2.1 366 (by decide) (by decide)) (e2.1 369 (by decide) (by decide)) (e2.1 371 (by decide) (by decide)) (e2.2 8 (by decide))
    generalize hI2 : mRw I1 (m_rows I1) [] = I2 at *
    rw [← hR2] at hRE
    have hLy2 : LyOK I2 := LyOK_eqx hLy1 e2 (by decide) (by decide) (by decide) (by decide) (by decide) (by decide)
    refine m_ew0 (c_laysWords hRE (by have := hLy2.2.2.2.2.1; omega)) fX4_laysWords q2447 (by decide) (Nat.le_of_ble_eq_true rfl) dX4_lays_17 (fun I3 h3' => ?_)
    have hLy3 : LyOK I3 := LyOK_eqx hLy2 h3'.1 (by decide) (by decide) (by decide) (by decide) (by decide) (by decide)
    have hR3 : m_rows I3 = m_rows I2 := m_rows_eq (h3'.1.1 364 (by decide) (by decide)) (h3'.1.1 365 (by decide) (by decide)) (h3'.1.1 366 (by decide) (by decide)) (h3'.1.1 369 (by decide) (by decide)) (h3'.1.1 371 (by decide) (by decide)) (h3'.1.2 8 (by decide))
    have hws : allW (m_rows I2) (I2 369 2) = wsI I3 := by unfold wsI; rw [hR3, h3'.1.1 369 (by decide) (by decide)]
    have hRE3 : RE I3 (m_rows I3) := by rw [hR3]; exact RE_eqx hRE h3'.1 (by decide) (by decide) (by decide)
    have hso3 : SgOK I3 := SgOK_eqx (SgOK_eqx hso1 (e2.1 371 (by decide) (by decide)) (e2.2 4 (by decide))) (h3'.1.1 371 (by decide) (by decide)) (h3'.1.2 4 (by decide))
    obtain ⟨e3, hWE, hwm, hht⟩ := h3'
    rw [hws] at hWE hwm
    have hht : ∀ c, 0 ≤ c → c < 20 → I3 379 c = cntH (wsI I3) c ∧ I3 380 c = cntT (wsI I3) c := by rw [← hws]; exact hht
    have hlen : (lxI I3).length ≤ 240 := by
      have a1 := allW_len (R := m_rows I3) (I3 369 2) (fun l hl => (hRE3.2.2.2.2 l hl).1.2)
      have a2 := hRE3.2.2.2.1
      have a3 := lexL_len (wsI I3)
      unfold lxI
      unfold wsI at *
      omega
    refine x_aload_n dX4_lays_20 rfl ?_
    refine m_ew0 (c_laysGrid (L := lxI I3) hLy3.1.2.1 hWE hlen hso3 hLy3.2.2.2.2.2.1) fX4_laysGrid q2475 (by decide) (Nat.le_of_ble_eq_true rfl) dX4_lays_21 (fun I4 h4' => ?_)
    obtain ⟨e4, hce, hg0, hg1⟩ := h4'
    have hLy4 : LyOK I4 := LyOK_eqx hLy3 e4 (by decide) (by decide) (by decide) (by decide) (by decide) (by decide)
    have hgi : GrIn I4 := fun k f hk h1 h2 => by
      rcases hk with rfl | rfl
      · exact (hg0.1 f h1 h2).1
      · exact (hg1.1 f h1 h2).1
    refine x_aload_n dX4_lays_24 rfl ?_
    refine m_ew0 (c_laysKnown hLy4.1.2.1 hLy4.2.2.2.2.2.2 hgi) fX4_laysKnown q2498 (by decide) (Nat.le_of_ble_eq_true rfl) dX4_lays_25 (fun I5 h5' => ?_)
    refine x_aload_n dX4_lays_28 rfl ?_
    refine x_iconst dX4_lays_29 ?_
    refine m_putI (kf := 45) 45 (by decide) rfl rfl q2160 rfl rfl (rr_nar_z (by first | exact Or.inl rfl | exact Or.inr rfl | omega)) dX4_lays_30 ?_
    refine x_vret rfl dX4_lays_33 (Nat.le_refl _) (Nat.le_refl _) ?_
    obtain ⟨e5, hkn⟩ := h5'
    have e6 : eqx I5 (rr_u2 I5 360 45 1) [] [45] := ⟨fun x h1 h2 => by funext j; rw [rr_u2_ne _ _ (by omega)], fun j hj => by rw [rr_u2_ne _ _ (by simp at hj; omega)]⟩
    have h45 : rr_u2 I5 360 45 1 360 45 = 1 := rr_u2_same _ _ _ _
    generalize rr_u2 I5 360 45 1 = I6 at *
    have e46 : eqx I4 I6 [385] [45] := (e5.mono (by decide) (by decide)).tr (e6.mono (by decide) (by decide))
    have e36 : eqx I3 I6 [382, 383, 385] [45] := (e4.mono (by decide) (by decide)).tr (e46.mono (by decide) (by decide))
    have e16 : eqx I1 I6 DA.tail DF.tail := (e2.mono (by decide) (by decide)).tr ((e3.mono (by decide) (by decide)).tr (e36.mono (by decide) (by decide)))
    have e06 : eqx I I6 DA DF := (h1.1.mono (by decide) (by decide)).tr (e16.mono (by decide) (by decide))
    have hR6 : m_rows I6 = m_rows I3 := m_rows_eq (e36.1 364 (by decide) (by decide)) (e36.1 365 (by decide) (by decide)) (e36.1 366 (by decide) (by decide)) (e36.1 369 (by decide) (by decide)) (e36.1 371 (by decide) (by decide)) (e36.2 8 (by decide))
    have hw6 : wsI I6 = wsI I3 := by unfold wsI; rw [hR6, e36.1 369 (by decide) (by decide)]
    have hl6 : lxI I6 = lxI I3 := by unfold lxI; rw [hw6]
    have hC6 : CL I6 (lxI I6) = CL I3 (lxI I3) := by rw [hl6]; exact CL_eq _ (e36.1 369 (by decide) (by decide)) (e36.1 371 (by decide) (by decide))
    refine ⟨rfl, rfl, _, rfl, e06, ?_, h45⟩
    have e371 : I6 371 = I1 371 := e16.1 371 (by decide) (by decide)
    have e4' : I6 360 4 = I1 360 4 := e16.2 4 (by decide)
    refine ⟨?_, ?_, ?_, ?_, ?_, ?_, ?_, ?_, ?_, ?_, ?_⟩
    · rw [e371, e06.2 4 (by decide), lk_eq (e06.1 362 (by decide) (by decide)) (e06.1 369 (by decide) (by decide))]
      exact h1.least
    · rw [e371, e06.2 4 (by decide), e16.2 19 (by decide)]
      exact h1.2.2.2
    · exact SgOK_eqx hso1 e371 e4'
    · rw [hR6]; exact RE_eqx hRE3 e36 (by decide) (by decide) (by decide)
    · rw [hl6]; exact WE_eqx hWE e36 (by decide) (by decide) (by decide) (by decide)
    · rw [hw6, e36.2 26 (by decide)]; exact hwm
    · rw [hw6, e36.1 379 (by decide) (by decide), e36.1 380 (by decide) (by decide)]; exact hht
    · rw [hC6]; exact CE_eqx hce (e46.1 382 (by decide) (by decide))
    · rw [hC6]; exact GrFin_eqx hg0 (e46.1 371 (by decide) (by decide)) (e46.2 4 (by decide)) (fun f _ _ => by rw [e46.1 383 (by decide) (by decide)])
    · rw [hC6]; exact GrFin_eqx hg1 (e46.1 371 (by decide) (by decide)) (e46.2 4 (by decide)) (fun f _ _ => by rw [e46.1 383 (by decide) (by decide)])
    · intro k f hk h1 h2
      rw [e6.1 385 (by decide) (by decide), knV_eq (I := I4) (e46.1 369 (by decide) (by decide)) (e46.1 383 (by decide) (by decide)) (e46.2 4 (by decide))]
      exact hkn k f hk h1 (by rw [← e46.2 4 (by decide)]; exact h2)
  · skip
    have hl2 := hl.resolve_left c_4
    refine x_vret rfl dX4_lays_7 (Nat.le_refl _) (Nat.le_refl _) ?_
    exact ⟨rfl, rfl, _, rfl, eqx.rf _ _ _, hl2.2, hl2.1⟩
