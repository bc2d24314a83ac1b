set_option maxRecDepth 100000
/-! THE MODEL's methods, 33: tests -/
noncomputable def wlN (J : Nat → Int → Int) : Nat → List Int
  | 0 => []
  | k + 1 => wlN J k ++ @ite _ (J 371 k = k ∧ whl J k) (Classical.propDecidable _) [(k : Int)] []
theorem wlN_in (J : Nat → Int → Int) : ∀ k : Nat, (wlN J k).length ≤ k ∧ ∀ c ∈ wlN J k, 0 ≤ c ∧ c < k ∧ J 371 c = c ∧ whl J c := by
  intro k
  induction k with
  | zero => simp [wlN]
  | succ k ih =>
    simp only [wlN]
    split
    · rename_i hh
      refine ⟨by simp; omega, fun c hc => ?_⟩
      simp only [List.mem_append, List.mem_singleton] at hc
      rcases hc with z | z
      · have := ih.2 c z; exact ⟨this.1, by omega, this.2.2⟩
      · rw [z]; exact ⟨by omega, by omega, hh⟩
    · refine ⟨by simp; omega, fun c hc => ?_⟩
      rw [List.append_nil] at hc
      have := ih.2 c hc
      exact ⟨this.1, by omega, this.2.2⟩
theorem wlN_nd (J : Nat → Int → Int) : ∀ k : Nat, (wlN J k).Nodup := by
  intro k
  induction k with
  | zero => simp [wlN]
  | succ k ih =>
    simp only [wlN]
    split
    · rw [List.nodup_append]
      refine ⟨ih, by simp, fun a ha b hb => ?_⟩
      simp only [List.mem_singleton] at hb
      have := (wlN_in J k).2 a ha
      omega
    · simpa using ih
noncomputable def wlL (J : Nat → Int → Int) : List Int := wlN J (J 360 4).toNat
def vlF (J : Nat → Int → Int) (f : Int) : Int := 5 * J 385 f + J 385 (20 + f)
/-- the whole signs stand in their arrays -/
def WlE (I J : Nat → Int → Int) (l : List Int) : Prop := eqx I J [388, 389] [] ∧ ∀ i : Nat, i < l.length → J 388 i = l.getD i 0 ∧ J 389 i = vlF I (l.getD i 0)
def WhPost (I : Nat → Int → Int) (z : Int) (J : Nat → Int → Int) : Prop := z = (wlL I).length ∧ WlE I J (wlL I)
theorem c_laysWhole {I : Nat → Int → Int} (h4 : 0 ≤ I 360 4 ∧ I 360 4 ≤ 20) (hki : KnIn I) (hs : SgOK I) : mQ yX4_laysWhole cX4_laysWhole 3 (some FieldType.int) 1 [vR (some 360)] I (WhPost I) := by
  refine mQ.of (by decide) rfl (Nat.le_of_ble_eq_true rfl) (fun G nx => ?_)
  refine x_ls (ls2 := [some (vR (some 360)), none, none]) rfl ?_
  generalize hF : WhPost I = F
  refine x_iconst dX4_laysWhole_0 ?_
  refine x_istore_n dX4_laysWhole_1 (by decide) ?_
  refine x_iconst dX4_laysWhole_2 ?_
  refine x_istore_n dX4_laysWhole_3 (by decide) ?_
  refine x_loc (ls2 := [some (vR (some 360)), some (vI ((wlN I ((0 : Nat), I).1).length : Int)), some (vI (((0 : Nat), I).1 : Int))]) (by repeat first | exact trivial | refine ⟨Or.inr rfl, ?_⟩ | refine ⟨Or.inl rfl, ?_⟩) ?_
  refine rr_ind (W := fun q : Nat × (Nat → Int → Int) => mq G yX4_laysWhole cX4_laysWhole 3 (some FieldType.int) 1 nx _ 4 [some (vR (some 360)), some (vI ((wlN I q.1).length : Int)), some (vI (q.1 : Int))] [] q.2) (fun q => (I 360 4).toNat - q.1) (fun q => q.1 ≤ (I 360 4).toNat ∧ WlE I q.2 (wlN I q.1)) ?_ ((0 : Nat), I) ⟨by simp, eqx.rf _ _ _, fun i hi => by simp [wlN] at hi⟩
  rintro ⟨k, J⟩ ⟨hk, hJ⟩ ih
  simp only at hk hJ ih
  dsimp only
  have e4 := hJ.1.2 4 (by decide)
  have e385 := hJ.1.1 385 (by decide) (by decide)
  have e371 := hJ.1.1 371 (by decide) (by decide)
  have hw := wlN_in I k
  have hkJ : KnIn J := by unfold KnIn; rw [e385, e4]; exact hki
  have hsk := fun z => (hs k (by omega) z).1
  have hst : wlN I (k + 1) = wlN I k ++ @ite _ (I 371 k = k ∧ whl I k) (Classical.propDecidable _) [(k : Int)] [] := rfl
  have hwe : whl J k = whl I k := by unfold whl; rw [e385]
  have hskip : (k : Int) < I 360 4 → ¬ (I 371 k = k ∧ whl I k) → mq G yX4_laysWhole cX4_laysWhole 3 (some FieldType.int) 1 nx _ 4 [some (vR (some 360)), some (vI ((wlN I k).length : Int)), some (vI ((k : Int) + 1))] [] J := fun a z => by
    rw [if_neg z, List.append_nil] at hst
    have hgo := ih (k + 1, J) ⟨by simp only; omega, by simp only; rw [hst]; exact hJ⟩ (by simp only; omega)
    simp only at hgo
    rw [hst, show ((k + 1 : Nat) : Int) = (k : Int) + 1 by omega] at hgo
    exact hgo
  refine x_iload_n dX4_laysWhole_4 rfl ?_
  refine x_aload_n dX4_laysWhole_5 rfl ?_
  refine m_getI (kf := 4) 4 (by decide) rfl rfl q2119 rfl dX4_laysWhole_6 ?_
  rw [e4]
  refine x_icmp_ge (t := 68) dX4_laysWhole_9 (by decide) (by omega) (fun c_9 => ?_) (fun c_9 => ?_)
  · skip
    refine x_iload_n dX4_laysWhole_68 rfl ?_
    refine x_iret rfl dX4_laysWhole_69 (Nat.le_refl _) (Nat.le_refl _) ?_
    rw [← hF]
    have hk2 : k = (I 360 4).toNat := by omega
    refine ⟨_, rfl, rfl, _, rfl, ?_⟩
    unfold WhPost wlL
    rw [← hk2]
    exact ⟨rfl, hJ⟩
  · skip
    have hsk := hsk (by omega)
    refine x_aload_n dX4_laysWhole_12 rfl ?_
    refine x_iload_n dX4_laysWhole_13 rfl ?_
    refine m_cv1 (c_isSign (by omega) (by rw [e371]; omega)) fX4_isSign q2517 (by decide) (Nat.le_of_ble_eq_true rfl) dX4_laysWhole_14 ?_
    refine x_if_eq_b (t := 62) dX4_laysWhole_17 (by decide) (fun c_17 => ?_) (fun c_17 => ?_)
    · skip
      rw [e371] at c_17
      have hgo := hskip (by omega) (fun z => c_17 z.1)
      refine x_iinc dX4_laysWhole_62 rfl (by decide) ?_
      refine x_goto (t := 4) dX4_laysWhole_65 (by decide) ?_
      exact x_loc (by repeat first | exact trivial | refine ⟨Or.inr rfl, ?_⟩ | refine ⟨Or.inl rfl, ?_⟩) hgo
    · skip
      refine x_aload_n dX4_laysWhole_20 rfl ?_
      refine x_iload_n dX4_laysWhole_21 rfl ?_
      refine m_cv1 (c_isWhole (by omega) hkJ (by omega)) fX4_isWhole q2525 (by decide) (Nat.le_of_ble_eq_true rfl) dX4_laysWhole_22 ?_
      refine x_if_eq_b (t := 62) dX4_laysWhole_25 (by decide) (fun c_25 => ?_) (fun c_25 => ?_)
      · skip
        rw [hwe] at c_25
        have hgo := hskip (by omega) (fun z => c_25 z.2)
        refine x_iinc dX4_laysWhole_62 rfl (by decide) ?_
        refine x_goto (t := 4) dX4_laysWhole_65 (by decide) ?_
        exact x_loc (by repeat first | exact trivial | refine ⟨Or.inr rfl, ?_⟩ | refine ⟨Or.inl rfl, ?_⟩) hgo
      · skip
        rw [e371] at c_17
        rw [hwe] at c_25
        rw [if_pos ⟨c_17, c_25⟩] at hst
        refine x_aload_n dX4_laysWhole_28 rfl ?_
        refine m_getA (kf := 42) 42 (a := 388) (by decide) rfl rfl q2157 rfl rfl dX4_laysWhole_29 ?_
        refine x_iload_n dX4_laysWhole_32 rfl ?_
        refine x_iload_n dX4_laysWhole_33 rfl ?_
        refine m_iast (n := 20) rfl rfl (by decide) (by omega) dX4_laysWhole_34 ?_
        refine x_aload_n dX4_laysWhole_35 rfl ?_
        refine m_getA (kf := 43) 43 (a := 389) (by decide) rfl rfl q2158 rfl rfl dX4_laysWhole_36 ?_
        refine x_iload_n dX4_laysWhole_39 rfl ?_
        refine x_iconst dX4_laysWhole_40 ?_
        refine x_aload_n dX4_laysWhole_41 rfl ?_
        refine m_getA (kf := 37) 37 (a := 385) (by decide) rfl rfl q2152 rfl rfl dX4_laysWhole_42 ?_
        refine x_iload_n dX4_laysWhole_45 rfl ?_
        refine m_iald (n := 40) rfl rfl (by decide) (by omega) dX4_laysWhole_46 ?_
        rw [rr_u2_ne _ _ (by omega), e385]
        refine x_imul dX4_laysWhole_47 ?_
        refine x_aload_n dX4_laysWhole_48 rfl ?_
        refine m_getA (kf := 37) 37 (a := 385) (by decide) rfl rfl q2152 rfl rfl dX4_laysWhole_49 ?_
        refine x_bipush dX4_laysWhole_52 (by decide) ?_
        refine x_iload_n dX4_laysWhole_54 rfl ?_
        refine x_iadd dX4_laysWhole_55 ?_
        refine m_iald (n := 40) rfl rfl (by decide) (by omega) dX4_laysWhole_56 ?_
        rw [rr_u2_ne _ _ (by omega), e385]
        refine x_iadd dX4_laysWhole_57 ?_
        refine m_iast (n := 20) rfl rfl (by decide) (by omega) dX4_laysWhole_58 ?_
        refine x_iinc dX4_laysWhole_59 rfl (by decide) ?_
        have hE : WlE I (rr_u2 (rr_u2 J 388 (wlN I k).length k) 389 (wlN I k).length (5 * I 385 k + I 385 (20 + k))) (wlN I (k + 1)) := by
          refine ⟨⟨fun x a b => ?_, fun j hj => ?_⟩, fun i hi => ?_⟩
          · funext j
            have b2 := b
            simp at b2
            rw [rr_u2_ne _ _ (by omega), rr_u2_ne _ _ (by omega), hJ.1.1 x a b]
          · rw [rr_u2_ne _ _ (by omega), rr_u2_ne _ _ (by omega)]; exact hJ.1.2 j hj
          · rw [hst] at hi ⊢
            simp only [List.length_append, List.length_singleton] at hi
            by_cases e : i = (wlN I k).length
            · have : (wlN I k ++ [(k : Int)]).getD i 0 = k := by rw [e]; simp
              rw [this, e, rr_u2_ne _ _ (by omega), rr_u2_same, rr_u2_same]
              exact ⟨rfl, rfl⟩
            · have : (wlN I k ++ [(k : Int)]).getD i 0 = (wlN I k).getD i 0 := by simp [List.getD_eq_getElem?_getD, List.getElem?_append_left (show i < (wlN I k).length by omega)]
              rw [this, rr_u2_ne _ _ (by omega), rr_u2_ne _ _ (by omega), rr_u2_ne _ _ (by omega), rr_u2_ne _ _ (by omega)]
              exact hJ.2 i (by omega)
        have hgo := ih (k + 1, _) ⟨by simp only; omega, hE⟩ (by simp only; omega)
        simp only at hgo
        rw [show ((wlN I (k + 1)).length : Int) = ((wlN I k).length : Int) + 1 by rw [hst]; simp, show ((k + 1 : Nat) : Int) = (k : Int) + 1 by omega] at hgo
        refine x_iinc dX4_laysWhole_62 rfl (by decide) ?_
        refine x_goto (t := 4) dX4_laysWhole_65 (by decide) ?_
        exact x_loc (by repeat first | exact trivial | refine ⟨Or.inr rfl, ?_⟩ | refine ⟨Or.inl rfl, ?_⟩) hgo
def swp (v : Int → Int) (a b : Int) : Int → Int := fun j => if j = b then v a else if j = a then v b else v j
/-- values are changed about -/
def shN : Nat → Int → (Int → Int) → Int × (Int → Int)
  | 0, x, v => (x, v)
  | k + 1, x, v => shN k (nxX x) (swp v ((k : Int) + 1) (nxX x / 65536 % ((k : Int) + 2)))
theorem nxX_in (x : Int) : 0 ≤ nxX x ∧ nxX x < 2147483648 := by unfold nxX; omega
def mMx (J : Nat → Int → Int) (v : Int → Int) (x : Int) : Nat → Int → Int := fun y j => if y = 390 then v j else if y = 360 ∧ j = 41 then x else J y j
theorem mMx_v (J : Nat → Int → Int) (v : Int → Int) (x : Int) : mMx J v x 390 = v := by funext j; simp [mMx]
theorem mMx_x (J : Nat → Int → Int) (v : Int → Int) (x : Int) : mMx J v x 360 41 = x := by simp [mMx]
theorem mMx_sx (J : Nat → Int → Int) (v : Int → Int) (x y : Int) : rr_u2 (mMx J v x) 360 41 y = mMx J v y := by apply rr_u2_eq; intro a j; simp only [mMx, rr_u2]; grind
theorem mMx_sv (J : Nat → Int → Int) (v : Int → Int) (x i w : Int) : rr_u2 (mMx J v x) 390 i w = mMx J (upA v i w) x := by apply rr_u2_eq; intro a j; simp only [mMx, rr_u2, upA]; grind
theorem eqx_mMx (J : Nat → Int → Int) (v : Int → Int) (x : Int) : eqx J (mMx J v x) [390] [41] := ⟨fun y a b => by funext j; simp at b; simp [mMx, a, b], fun j hj => by simp at hj; simp [mMx, hj]⟩
/-- mixed values are laid -/
def KnM (J : Nat → Int → Int) (l : List Int) (m : Int → Int) (n : Nat) : Prop := (∀ i : Nat, i < n → J 385 (l.getD i 0) = m i / 5 ∧ J 385 (20 + l.getD i 0) = m i % 5) ∧ ∀ f, 0 ≤ f → f < 20 → (∀ i : Nat, i < n → l.getD i 0 ≠ f) → J 385 f = -1 ∧ J 385 (20 + f) = -1
def MxPost (I : Nat → Int → Int) (l : List Int) (J : Nat → Int → Int) : Prop := eqx I J [390, 385] [41] ∧ J 360 41 = (shN (l.length - 1) (I 360 41) (fl I 390 0 l.length (I 389) 390)).1 ∧ KnM J l (shN (l.length - 1) (I 360 41) (fl I 390 0 l.length (I 389) 390)).2 l.length
theorem c_mixes {I : Nat → Int → Int} {l : List Int} (hx : 0 ≤ I 360 41 ∧ I 360 41 < 2147483648) (hl : l.length ≤ 20) (hnd : l.Nodup) (hin : ∀ c ∈ l, 0 ≤ c ∧ c < 20) (h388 : ∀ i : Nat, i < l.length → I 388 i = l.getD i 0) (h389 : ∀ i : Nat, i < l.length → 0 ≤ I 389 i ∧ I 389 i < 50) : mE yX4_mixes cX4_mixes 5 none 1 [vR (some 360), vI (l.length : Int)] I (MxPost I l) := by
  have hget : ∀ i : Nat, i < l.length → 0 ≤ l.getD i 0 ∧ l.getD i 0 < 20 := fun i hi => by
    rw [List.getD_eq_getElem?_getD, List.getElem?_eq_getElem hi]
    exact hin _ (List.getElem_mem _)
  have hinj : ∀ i j : Nat, i < l.length → j < l.length → l.getD i 0 = l.getD j 0 → i = j := fun i j hi hj e => by
    rw [List.getD_eq_getElem?_getD, List.getElem?_eq_getElem hi, List.getD_eq_getElem?_getD, List.getElem?_eq_getElem hj] at e
    simp only [Option.getD_some] at e
    have hp := List.pairwise_iff_getElem.mp hnd
    rcases Nat.lt_trichotomy i j with z | z | z
    · exact absurd e (hp i j hi hj z)
    · exact z
    · exact absurd e.symm (hp j i hj hi z)
  refine mE.of (by decide) rfl (Nat.le_of_ble_eq_true rfl) (fun G nx => ?_)
  refine x_ls (ls2 := [some (vR (some 360)), some (vI (l.length : Int)), none, none, none]) rfl ?_
  generalize hF : MxPost I l = F
  refine x_iconst dX4_mixes_0 ?_
  refine x_istore_n dX4_mixes_1 (by decide) ?_
  refine x_h (h2 := mh (fl I 390 0 0 (I 389))) (by rw [fl_0 _ 390 (by omega)]) ?_
  refine rr_ind (W := fun k => me G yX4_mixes cX4_mixes 5 none 1 nx _ 2 [some (vR (some 360)), some (vI (l.length : Int)), some (vI k), none, none] [] (fl I 390 0 k (I 389))) (fun k => ((l.length : Int) - k).toNat) (fun k => 0 ≤ k ∧ k ≤ l.length) ?_ 0 (by omega)
  intro k hk ih
  have f389 : fl I 390 0 k (I 389) 389 = I 389 := by funext j; exact fl_o _ _ _ _ _ (by omega)
  refine x_iload_n dX4_mixes_2 rfl ?_
  refine x_iload_n dX4_mixes_3 rfl ?_
  refine x_icmp_ge (t := 25) dX4_mixes_4 (by decide) (by omega) (fun c_4 => ?_) (fun c_4 => ?_)
  · skip
    have hk2 : k = l.length := by omega
    subst hk2
    refine x_iload_n dX4_mixes_25 rfl ?_
    refine x_iconst dX4_mixes_26 ?_
    refine x_isub dX4_mixes_27 ?_
    refine x_istore_n dX4_mixes_28 (by decide) ?_
    clear ih f389 hk
    have hv0 : ∀ i : Nat, i < l.length → 0 ≤ fl I 390 0 l.length (I 389) 390 i ∧ fl I 390 0 l.length (I 389) 390 i < 50 := fun i hi => by
      simp only [fl]
      rw [if_pos ⟨trivial, by omega, by omega⟩]
      exact h389 i hi
    have hm0 : fl I 390 0 l.length (I 389) = mMx I (fl I 390 0 l.length (I 389) 390) (I 360 41) := by
      apply rr_u2_eq
      intro x j
      simp only [mMx]
      by_cases e : x = 390
      · rw [if_pos e, e]
      · rw [if_neg e, fl_o _ _ _ _ _ (by omega)]
        split
        · rename_i z; rw [z.1, z.2]
        · rfl
    rw [hm0]
    unfold MxPost at hF
    generalize fl I 390 0 l.length (I 389) 390 = v0 at *
    generalize hR : shN (l.length - 1) (I 360 41) v0 = R at hF
    clear hm0
    refine x_h (h2 := mh (mMx I ((((l.length : Int) - 1), I 360 41, v0) : Int × Int × (Int → Int)).2.2 ((((l.length : Int) - 1), I 360 41, v0) : Int × Int × (Int → Int)).2.1)) rfl ?_
    refine x_loc (ls2 := [some (vR (some 360)), some (vI (l.length : Int)), some (vI ((((l.length : Int) - 1), I 360 41, v0) : Int × Int × (Int → Int)).1), none, none]) (by repeat first | exact trivial | refine ⟨Or.inr rfl, ?_⟩ | refine ⟨Or.inl rfl, ?_⟩) ?_
    refine rr_ind (W := fun q : Int × Int × (Int → Int) => me G yX4_mixes cX4_mixes 5 none 1 nx _ 29 [some (vR (some 360)), some (vI (l.length : Int)), some (vI q.1), none, none] [] (mMx I q.2.2 q.2.1)) (fun q => q.1.toNat) (fun q => (-1 ≤ q.1 ∧ q.1 < l.length) ∧ (0 ≤ q.2.1 ∧ q.2.1 < 2147483648) ∧ (∀ i : Nat, i < l.length → 0 ≤ q.2.2 i ∧ q.2.2 i < 50) ∧ shN q.1.toNat q.2.1 q.2.2 = R) ?_ (((l.length : Int) - 1), I 360 41, v0) ⟨by simp only; omega, hx, hv0, by simp only; rw [← hR]; congr 1; omega⟩
    clear hv0 hR
    rintro ⟨k, x, v⟩ ⟨hk, hx2, hv, hsh⟩ ih
    simp only at hk hx2 hv hsh ih
    dsimp only
    refine x_iload_n dX4_mixes_29 rfl ?_
    refine x_if_le (t := 75) dX4_mixes_30 (by decide) (by omega) (fun c_30 => ?_) (fun c_30 => ?_)
    · skip
      refine x_iconst dX4_mixes_75 ?_
      refine x_istore_n dX4_mixes_76 (by decide) ?_
      rw [show k.toNat = 0 by omega] at hsh
      have hsh : (x, v) = R := hsh
      subst hsh
      clear ih
      refine x_h (h2 := mh (fl (mMx I v x) 385 0 0 (fun _ => -1))) (by rw [fl_0 _ 385 (by omega)]) ?_
      refine rr_ind (W := fun k => me G yX4_mixes cX4_mixes 5 none 1 nx _ 77 [some (vR (some 360)), some (vI (l.length : Int)), some (vI k), none, none] [] (fl (mMx I v x) 385 0 k (fun _ => -1))) (fun k => (40 - k).toNat) (fun k => 0 ≤ k ∧ k ≤ 40) ?_ 0 (by omega)
      intro k hk ih
      refine x_iload_n dX4_mixes_77 rfl ?_
      refine x_bipush dX4_mixes_78 (by decide) ?_
      refine x_icmp_ge (t := 96) dX4_mixes_80 (by decide) (by omega) (fun c_80 => ?_) (fun c_80 => ?_)
      · skip
        have hk2 : k = 40 := by omega
        subst hk2
        refine x_iconst dX4_mixes_96 ?_
        refine x_istore_n dX4_mixes_97 (by decide) ?_
        clear ih hk
        have he0 : eqx I (fl (mMx I v x) 385 0 40 (fun _ => -1)) [390, 385] [41] := ((eqx_mMx I v x).mono (by decide) (by decide)).tr ⟨fun y a b => by funext j; simp at b; rw [fl_o _ _ _ _ _ (by omega)], fun j hj => by rw [fl_o _ _ _ _ _ (by omega)]⟩
        have hm0 : fl (mMx I v x) 385 0 40 (fun _ => -1) 390 = v := by funext j; rw [fl_o _ _ _ _ _ (by omega), mMx_v]
        have hx0 : fl (mMx I v x) 385 0 40 (fun _ => -1) 360 41 = x := by rw [fl_o _ _ _ _ _ (by omega), mMx_x]
        have hk0 : KnM (fl (mMx I v x) 385 0 40 (fun _ => -1)) l v 0 := ⟨fun i hi => by omega, fun f a b _ => by
          simp only [fl]
          rw [if_pos ⟨trivial, by omega, by omega⟩, if_pos ⟨trivial, by omega, by omega⟩]
          exact ⟨rfl, rfl⟩⟩
        generalize fl (mMx I v x) 385 0 40 (fun _ => -1) = J0 at *
        refine x_loc (ls2 := [some (vR (some 360)), some (vI (l.length : Int)), some (vI (((0 : Nat), J0).1 : Int)), none, none]) (by repeat first | exact trivial | refine ⟨Or.inr rfl, ?_⟩ | refine ⟨Or.inl rfl, ?_⟩) ?_
        refine rr_ind (W := fun q : Nat × (Nat → Int → Int) => me G yX4_mixes cX4_mixes 5 none 1 nx _ 98 [some (vR (some 360)), some (vI (l.length : Int)), some (vI (q.1 : Int)), none, none] [] q.2) (fun q => l.length - q.1) (fun q => q.1 ≤ l.length ∧ eqx I q.2 [390, 385] [41] ∧ q.2 390 = v ∧ q.2 360 41 = x ∧ KnM q.2 l v q.1) ?_ ((0 : Nat), J0) ⟨by simp, he0, hm0, hx0, hk0⟩
        clear he0 hm0 hx0 hk0
        rintro ⟨i, J⟩ ⟨hi, he, hm, hxx, hkm⟩ ih
        simp only at hi he hm hxx hkm ih
        dsimp only
        have e388 := he.1 388 (by decide) (by decide)
        refine x_iload_n dX4_mixes_98 rfl ?_
        refine x_iload_n dX4_mixes_99 rfl ?_
        refine x_icmp_ge (t := 150) dX4_mixes_100 (by decide) (by omega) (fun c_100 => ?_) (fun c_100 => ?_)
        · skip
          refine x_vret rfl dX4_mixes_150 (Nat.le_refl _) (Nat.le_refl _) ?_
          refine ⟨rfl, rfl, _, rfl, ?_⟩
          rw [← hF]
          have hil : i = l.length := by omega
          rw [hil] at hkm
          exact ⟨he, hxx, hkm⟩
        · skip
          have hgi := hget i (by omega)
          have hvi := hv i (by omega)
          have h8i := h388 i (by omega)
          refine x_aload_n dX4_mixes_103 rfl ?_
          refine m_getA (kf := 37) 37 (a := 385) (by decide) rfl rfl q2152 rfl rfl dX4_mixes_104 ?_
          refine x_aload_n dX4_mixes_107 rfl ?_
          refine m_getA (kf := 42) 42 (a := 388) (by decide) rfl rfl q2157 rfl rfl dX4_mixes_108 ?_
          refine x_iload_n dX4_mixes_111 rfl ?_
          refine m_iald (n := 20) rfl rfl (by decide) (by omega) dX4_mixes_112 ?_
          rw [e388, h8i]
          refine x_aload_n dX4_mixes_113 rfl ?_
          refine m_getA (kf := 44) 44 (a := 390) (by decide) rfl rfl q2159 rfl rfl dX4_mixes_114 ?_
          refine x_iload_n dX4_mixes_117 rfl ?_
          refine m_iald (n := 20) rfl rfl (by decide) (by omega) dX4_mixes_118 ?_
          rw [hm]
          refine x_iconst dX4_mixes_119 ?_
          refine x_idiv dX4_mixes_120 (by omega) (by omega) ?_
          refine m_iast (n := 40) rfl rfl (by decide) (by omega) dX4_mixes_121 ?_
          refine x_aload_n dX4_mixes_122 rfl ?_
          refine m_getA (kf := 37) 37 (a := 385) (by decide) rfl rfl q2152 rfl rfl dX4_mixes_123 ?_
          refine x_bipush dX4_mixes_126 (by decide) ?_
          refine x_aload_n dX4_mixes_128 rfl ?_
          refine m_getA (kf := 42) 42 (a := 388) (by decide) rfl rfl q2157 rfl rfl dX4_mixes_129 ?_
          refine x_iload_n dX4_mixes_132 rfl ?_
          refine m_iald (n := 20) rfl rfl (by decide) (by omega) dX4_mixes_133 ?_
          rw [rr_u2_ne _ _ (by omega), e388, h8i]
          refine x_iadd dX4_mixes_134 ?_
          refine x_aload_n dX4_mixes_135 rfl ?_
          refine m_getA (kf := 44) 44 (a := 390) (by decide) rfl rfl q2159 rfl rfl dX4_mixes_136 ?_
          refine x_iload_n dX4_mixes_139 rfl ?_
          refine m_iald (n := 20) rfl rfl (by decide) (by omega) dX4_mixes_140 ?_
          rw [rr_u2_ne _ _ (by omega), hm]
          refine x_iconst dX4_mixes_141 ?_
          refine x_irem dX4_mixes_142 (by omega) (by omega) ?_
          refine m_iast (n := 40) rfl rfl (by decide) (by omega) dX4_mixes_143 ?_
          refine x_iinc dX4_mixes_144 rfl (by decide) ?_
          refine x_goto (t := 98) dX4_mixes_147 (by decide) ?_
          generalize hK : rr_u2 (rr_u2 J 385 (l.getD i 0) (v i / 5)) 385 (20 + l.getD i 0) (v i % 5) = K
          have heK : eqx J K [385] [] := by
            rw [← hK]
            exact ⟨fun y a b => by funext j; simp at b; rw [rr_u2_ne _ _ (by omega), rr_u2_ne _ _ (by omega)], fun j hj => by rw [rr_u2_ne _ _ (by omega), rr_u2_ne _ _ (by omega)]⟩
          have hgo := ih (i + 1, K) ⟨by simp only; omega, he.tr (heK.mono (by decide) (by decide)), by simp only; rw [heK.1 390 (by decide) (by decide)]; exact hm, by simp only; rw [heK.2 41 (by decide)]; exact hxx, fun j hj => ?_, fun f a b hno => ?_⟩ (by simp only; omega)
          · exact x_loc (by rw [show (((i + 1, K) : Nat × (Nat → Int → Int)).1 : Int) = (i : Int) + 1 by simp only; omega]; exact (by repeat first | exact trivial | refine ⟨Or.inr rfl, ?_⟩ | refine ⟨Or.inl rfl, ?_⟩)) hgo
          · simp only at hj ⊢
            rw [← hK]
            by_cases e : j = i
            · subst e
              rw [rr_u2_ne _ _ (by omega), rr_u2_same, rr_u2_same]
              exact ⟨rfl, rfl⟩
            · have hgj := hget j (by omega)
              have hne : l.getD j 0 ≠ l.getD i 0 := fun z => e (hinj j i (by omega) (by omega) z)
              rw [rr_u2_ne _ _ (by omega), rr_u2_ne _ _ (fun z => hne z.2), rr_u2_ne _ _ (by omega), rr_u2_ne _ _ (by omega)]
              exact hkm.1 j (by omega)
          · simp only at hno ⊢
            rw [← hK]
            have hne := hno i (by omega)
            rw [rr_u2_ne _ _ (by omega), rr_u2_ne _ _ (fun z => hne z.2.symm), rr_u2_ne _ _ (by omega), rr_u2_ne _ _ (by omega)]
            exact hkm.2 f a b (fun j hj => hno j (by omega))
      · skip
        refine x_aload_n dX4_mixes_83 rfl ?_
        refine m_getA (kf := 37) 37 (a := 385) (by decide) rfl rfl q2152 rfl rfl dX4_mixes_84 ?_
        refine x_iload_n dX4_mixes_87 rfl ?_
        refine x_iconst dX4_mixes_88 ?_
        refine m_iast (n := 40) rfl rfl (by decide) (by omega) dX4_mixes_89 ?_
        rw [show rr_u2 (fl (mMx I v x) 385 0 k (fun _ => -1)) 385 k (-1) = fl (mMx I v x) 385 0 (k + 1) (fun _ => -1) from by apply rr_u2_eq; intro x j; simp only [rr_u2, fl]; grind (splits := 20)]
        refine x_iinc dX4_mixes_90 rfl (by decide) ?_
        refine x_goto (t := 77) dX4_mixes_93 (by decide) ?_
        exact ih (k + 1) (by omega) (by omega)
    · skip
      refine x_aload_n dX4_mixes_33 rfl ?_
      refine x_iload_n dX4_mixes_34 rfl ?_
      refine x_iconst dX4_mixes_35 ?_
      refine x_iadd dX4_mixes_36 ?_
      refine m_cv1 (c_drawn (by rw [mMx_x]; exact hx2) (by omega)) fX4_drawn q2702 (by decide) (Nat.le_of_ble_eq_true rfl) dX4_mixes_37 ?_
      rw [mMx_x, mMx_sx]
      have ho : 0 ≤ nxX x / 65536 % (k + 1) ∧ nxX x / 65536 % (k + 1) < k + 1 := ⟨Int.emod_nonneg _ (by omega), Int.emod_lt_of_pos _ (by omega)⟩
      have hvk := hv k.toNat (by omega)
      have hvo := hv (nxX x / 65536 % (k + 1)).toNat (by omega)
      rw [show ((k.toNat : Nat) : Int) = k by omega] at hvk
      rw [show (((nxX x / 65536 % (k + 1)).toNat : Nat) : Int) = nxX x / 65536 % (k + 1) by omega] at hvo
      refine x_istore_n dX4_mixes_40 (by decide) ?_
      refine x_aload_n dX4_mixes_41 rfl ?_
      refine m_getA (kf := 44) 44 (a := 390) (by decide) rfl rfl q2159 rfl rfl dX4_mixes_42 ?_
      refine x_iload_n dX4_mixes_45 rfl ?_
      refine m_iald (n := 20) rfl rfl (by decide) (by omega) dX4_mixes_46 ?_
      rw [mMx_v]
      refine x_istore dX4_mixes_47 (by decide) ?_
      refine x_aload_n dX4_mixes_49 rfl ?_
      refine m_getA (kf := 44) 44 (a := 390) (by decide) rfl rfl q2159 rfl rfl dX4_mixes_50 ?_
      refine x_iload_n dX4_mixes_53 rfl ?_
      refine x_aload_n dX4_mixes_54 rfl ?_
      refine m_getA (kf := 44) 44 (a := 390) (by decide) rfl rfl q2159 rfl rfl dX4_mixes_55 ?_
      refine x_iload_n dX4_mixes_58 rfl ?_
      refine m_iald (n := 20) rfl rfl (by decide) (by omega) dX4_mixes_59 ?_
      rw [mMx_v]
      refine m_iast (n := 20) rfl rfl (by decide) (by omega) dX4_mixes_60 ?_
      rw [mMx_sv]
      refine x_aload_n dX4_mixes_61 rfl ?_
      refine m_getA (kf := 44) 44 (a := 390) (by decide) rfl rfl q2159 rfl rfl dX4_mixes_62 ?_
      refine x_iload_n dX4_mixes_65 rfl ?_
      refine x_iload dX4_mixes_66 rfl ?_
      refine m_iast (n := 20) rfl rfl (by decide) (by omega) dX4_mixes_68 ?_
      rw [mMx_sv]
      refine x_iinc dX4_mixes_69 rfl (by decide) ?_
      refine x_goto (t := 29) dX4_mixes_72 (by decide) ?_
      obtain ⟨K, rfl⟩ : ∃ K : Nat, k = (K : Int) + 1 := ⟨(k - 1).toNat, by omega⟩
      have hsw : upA (upA v ((K : Int) + 1) (v (nxX x / 65536 % ((K : Int) + 1 + 1)))) (nxX x / 65536 % ((K : Int) + 1 + 1)) (v ((K : Int) + 1)) = swp v ((K : Int) + 1) (nxX x / 65536 % ((K : Int) + 2)) := by
        rw [show (K : Int) + 1 + 1 = (K : Int) + 2 by omega]
        funext j
        simp only [upA, swp]
      rw [hsw]
      rw [show (((K : Int) + 1).toNat) = K + 1 by omega] at hsh
      have hgo := ih ((K : Int) + 1 + -1, nxX x, swp v ((K : Int) + 1) (nxX x / 65536 % ((K : Int) + 2))) ⟨by simp only; omega, nxX_in x, fun i hi => by
        simp only [swp]
        split
        · exact hvk
        · split
          · rw [show (K : Int) + 2 = (K : Int) + 1 + 1 by omega]; exact hvo
          · exact hv i hi, by simp only; rw [show ((K : Int) + 1 + -1).toNat = K by omega, ← hsh]; rfl⟩ (by simp only; omega)
      exact x_loc (by repeat first | exact trivial | refine ⟨Or.inr rfl, ?_⟩ | refine ⟨Or.inl rfl, ?_⟩) hgo
  · skip
    refine x_aload_n dX4_mixes_7 rfl ?_
    refine m_getA (kf := 44) 44 (a := 390) (by decide) rfl rfl q2159 rfl rfl dX4_mixes_8 ?_
    refine x_iload_n dX4_mixes_11 rfl ?_
    refine x_aload_n dX4_mixes_12 rfl ?_
    refine m_getA (kf := 43) 43 (a := 389) (by decide) rfl rfl q2158 rfl rfl dX4_mixes_13 ?_
    refine x_iload_n dX4_mixes_16 rfl ?_
    refine m_iald (n := 20) rfl rfl (by decide) (by omega) dX4_mixes_17 ?_
    rw [f389]
    refine m_iast (n := 20) rfl rfl (by decide) (by omega) dX4_mixes_18 ?_
    rw [show rr_u2 (fl I 390 0 k (I 389)) 390 k (I 389 k) = fl I 390 0 (k + 1) (I 389) from by apply rr_u2_eq; intro x j; simp only [rr_u2, fl]; grind (splits := 20)]
    refine x_iinc dX4_mixes_19 rfl (by decide) ?_
    refine x_goto (t := 2) dX4_mixes_22 (by decide) ?_
    exact ih (k + 1) (by omega) (by omega)
