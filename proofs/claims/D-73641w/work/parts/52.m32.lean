set_option maxRecDepth 100000
/-! THE MODEL's methods, 32: laysWays, ways() -/
def subs {α : Type} (f : Nat → List α) : Nat → Nat → List α
  | 0, _ => []
  | k + 1, c => f c ++ subs f k (c + 1)
theorem subs_st {α : Type} (f : Nat → List α) {n c : Nat} (h : c < n) : subs f (n - c) c = f c ++ subs f (n - (c + 1)) (c + 1) := by
  rw [show n - c = (n - (c + 1)) + 1 by omega]; rfl
theorem subs_no {α : Type} (f : Nat → List α) {n c : Nat} (h : n ≤ c) : subs f (n - c) c = [] := by
  rw [show n - c = 0 by omega]; rfl
/-- all ways to go on behind pre, k names more -/
noncomputable def waysN (kn gr : Int → Int) (L : List (List Int × Int)) (nms : Nat → List Int) : Nat → List Nat → List (List Nat)
  | 0, pre => [pre]
  | k + 1, pre => subs (fun w => @ite _ (cbP kn gr L nms pre w) (Classical.propDecidable _) (waysN kn gr L nms k (pre ++ [w])) []) L.length 0
noncomputable def wyF (J : Nat → Int → Int) (L : List (List Int × Int)) (k : Nat) (pre : List Nat) (w : Nat) : List (List Nat) := @ite _ (cbP (J 385) (J 383) L (fun m => nmL J m) pre w) (Classical.propDecidable _) (waysN (J 385) (J 383) L (fun m => nmL J m) k (pre ++ [w])) []
noncomputable def wyAll (J : Nat → Int → Int) (L : List (List Int × Int)) : List (List Nat) := waysN (J 385) (J 383) L (fun m => nmL J m) (J 360 12).toNat []
/-- the ways that are taken stand in the numbers -/
def DnE (J : Nat → Int → Int) (done : List (List Nat)) : Prop := J 360 40 = done.length ∧ done.length ≤ 999 ∧ ∀ q, done.head? = some q → ∀ i : Nat, (i : Int) < J 360 12 → J 387 i = (q.getD i 0 : Nat)
def WsPost (I : Nat → Int → Int) (L : List (List Int × Int)) (J : Nat → Int → Int) : Prop := eqx I J [386, 387] [40] ∧ J 360 40 = min 999 ((wyAll I L).length : Int) ∧ ∀ q, (wyAll I L).head? = some q → ∀ i : Nat, (i : Int) < I 360 12 → J 387 i = (q.getD i 0 : Nat)
theorem WyOK_eqx {I J : Nat → Int → Int} {L : List (List Int × Int)} (h : WyOK I L) (he : eqx I J [386, 387] [40]) : WyOK J L := by
  obtain ⟨h1, h2, h3, h4, h5⟩ := h
  have e4 := he.2 4 (by decide)
  refine ⟨by rw [e4]; exact h1, ⟨WE_eqx h2.1 he (by decide) (by decide) (by decide) (by decide), h2.2.1, by rw [e4]; exact h2.2.2⟩, ?_, NmOK_eqx h4 (he.1 367 (by decide) (by decide)) (he.1 368 (by decide) (by decide)) (he.2 12 (by decide)), ?_⟩
  · unfold KnIn; rw [he.1 385 (by decide) (by decide), e4]; exact h3
  · unfold GrIn; rw [he.1 383 (by decide) (by decide), e4]; exact h5
theorem nmL_eqx {I J : Nat → Int → Int} (he : eqx I J [386, 387] [40]) : nmL J = nmL I := by
  funext n
  unfold nmL
  rw [he.1 367 (by decide) (by decide), he.1 368 (by decide) (by decide)]
/-- the search, from level pre on -/
def LvS (I : Nat → Int → Int) (L : List (List Int × Int)) (G : rr_G) (nx k : Nat) : Prop := ∀ (pre : List Nat) (c : Nat) (done rest : List (List Nat)) (J : Nat → Int → Int), (pre.length : Int) + k + 1 = I 360 12 → eqx I J [386, 387] [40] → GvE J L pre → J 386 pre.length = (c : Int) - 1 → c ≤ L.length → DnE J done → wyAll I L = done ++ (subs (wyF I L k pre) (L.length - c) c ++ rest) →
    (∀ (J' : Nat → Int → Int) (done' : List (List Nat)), eqx I J' [386, 387] [40] → GvE J' L pre → DnE J' done' → wyAll I L = done' ++ rest → me G yX4_laysWays cX4_laysWays 2 none 3 nx (WsPost I L) 27 [some (vR (some 360)), some (vI ((pre.length : Int) - 1))] [] J') → me G yX4_laysWays cX4_laysWays 2 none 3 nx (WsPost I L) 27 [some (vR (some 360)), some (vI (pre.length : Int))] [] J
theorem GvE.sub {J : Nat → Int → Int} {L : List (List Int × Int)} {pre : List Nat} {c : Nat} (h : GvE J L (pre ++ [c])) : GvE J L pre ∧ J 386 pre.length = c := by
  refine ⟨fun m hm => ?_, ?_⟩
  · have := h m (by simp; omega)
    rw [show (pre ++ [c]).getD m 0 = pre.getD m 0 by simp [List.getD_eq_getElem?_getD, List.getElem?_append_left hm]] at this
    exact this
  · have := (h pre.length (by simp)).1
    rw [show (pre ++ [c]).getD pre.length 0 = c by simp] at this
    exact this
theorem DnE.fin {I J : Nat → Int → Int} {L : List (List Int × Int)} {done rest : List (List Nat)} (he : eqx I J [386, 387] [40]) (h : DnE J done) (ht : wyAll I L = done ++ rest) (hr : done.length = 999 ∨ rest = []) : WsPost I L J := by
  have hl : (wyAll I L).length = done.length + rest.length := by rw [ht, List.length_append]
  refine ⟨he, ?_, fun q hq i hi => ?_⟩
  · rw [h.1]
    have := h.2.1
    rcases hr with z | z
    · omega
    · rw [z] at hl; simp at hl; omega
  · refine h.2.2 q ?_ i (by rw [he.2 12 (by decide)]; exact hi)
    rw [ht] at hq
    cases done with
    | nil =>
      rcases hr with z | z
      · simp at z
      · rw [z] at hq; simp at hq
    | cons a d => simpa using hq
theorem c_laysWays_in {I : Nat → Int → Int} {L : List (List Int × Int)} {G : rr_G} {nx k : Nat} (h : WyOK I L) (hIH : ∀ k', k = k' + 1 → LvS I L G nx k') : LvS I L G nx k := by
  have h12 := h.2.2.2.1.1
  have hl240 := h.2.1.2.1
  have h25 := h.2.1.1.1
  intro pre c0 done0 rest J0 hlen heJ hgv hc hcl hdn htot hK
  refine rr_ind (W := fun q : Nat × List (List Nat) × (Nat → Int → Int) => me G yX4_laysWays cX4_laysWays 2 none 3 nx (WsPost I L) 27 [some (vR (some 360)), some (vI (pre.length : Int))] [] q.2.2) (fun q => L.length - q.1) (fun q => q.1 ≤ L.length ∧ eqx I q.2.2 [386, 387] [40] ∧ GvE q.2.2 L pre ∧ q.2.2 386 pre.length = (q.1 : Int) - 1 ∧ DnE q.2.2 q.2.1 ∧ wyAll I L = q.2.1 ++ (subs (wyF I L k pre) (L.length - q.1) q.1 ++ rest)) ?_ (c0, done0, J0) ⟨hcl, heJ, hgv, hc, hdn, htot⟩
  clear hc hcl hdn htot hgv heJ
  rintro ⟨c, done, J⟩ ⟨hcl, heJ, hgv, hc, hdn, htot⟩ ih
  simp only at hcl heJ hgv hc hdn htot ih
  dsimp only
  have e12 := heJ.2 12 (by decide)
  have e25 := heJ.2 25 (by decide)
  have e40 := hdn.1
  have h999 := hdn.2.1
  have hN := nmL_eqx heJ
  generalize hJ1 : rr_u2 J 386 pre.length (c : Int) = J1
  have he1 : eqx J J1 [386] [] := by
    rw [← hJ1]
    exact ⟨fun x a b => by funext j; simp at b; rw [rr_u2_ne _ _ (by omega)], fun j hj => by rw [rr_u2_ne _ _ (by omega)]⟩
  have heI1 : eqx I J1 [386, 387] [40] := heJ.tr (he1.mono (by decide) (by decide))
  have hN1 := nmL_eqx heI1
  have hg1 : J1 386 pre.length = c := by rw [← hJ1]; exact rr_u2_same _ _ _ _
  have hgv1 : GvE J1 L pre := fun m hm => by
    obtain ⟨a1, a2, a3⟩ := hgv m hm
    refine ⟨?_, a2, ?_⟩
    · rw [← hJ1, rr_u2_ne _ _ (by omega)]; exact a1
    · rw [hN1, ← hN]; exact a3
  have hdn1 : DnE J1 done := by
    unfold DnE
    rw [he1.2 40 (by decide), he1.2 12 (by decide), he1.1 387 (by decide) (by decide)]
    exact hdn
  have e12' := heI1.2 12 (by decide)
  have e25' := heI1.2 25 (by decide)
  have hnxt : c < L.length → ∀ (J2 : Nat → Int → Int) (done2 : List (List Nat)), eqx I J2 [386, 387] [40] → GvE J2 L pre → J2 386 pre.length = c → DnE J2 done2 → wyAll I L = done2 ++ (subs (wyF I L k pre) (L.length - (c + 1)) (c + 1) ++ rest) → me G yX4_laysWays cX4_laysWays 2 none 3 nx (WsPost I L) 27 [some (vR (some 360)), some (vI (pre.length : Int))] [] J2 := fun z J2 done2 a1 a2 a3 a4 a5 => ih (c + 1, done2, J2) ⟨by simp only; omega, a1, a2, by simp only; rw [a3]; omega, a4, a5⟩ (by simp only; omega)
  refine x_iload_n dX4_laysWays_27 rfl ?_
  refine x_if_lt (t := 108) dX4_laysWays_28 (by decide) (by omega) (fun c_28 => absurd c_28 (by omega)) (fun c_28 => ?_)
  refine x_aload_n dX4_laysWays_31 rfl ?_
  refine m_getI (kf := 40) 40 (by decide) rfl rfl q2155 rfl dX4_laysWays_32 ?_
  rw [e40]
  refine x_sipush dX4_laysWays_35 (by decide) ?_
  refine x_icmp_ge (t := 108) dX4_laysWays_38 (by decide) (by omega) (fun c_38 => ?_) (fun c_38 => ?_)
  · skip
    refine x_vret rfl dX4_laysWays_108 (Nat.le_refl _) (Nat.le_refl _) ?_
    exact ⟨rfl, rfl, _, rfl, DnE.fin heJ hdn htot (Or.inl (by omega))⟩
  · skip
    refine x_aload_n dX4_laysWays_41 rfl ?_
    refine m_getA (kf := 38) 38 (a := 386) (by decide) rfl rfl q2153 rfl rfl dX4_laysWays_42 ?_
    refine x_iload_n dX4_laysWays_45 rfl ?_
    refine x_dup2 dX4_laysWays_46 rfl rfl ?_
    refine m_iald (n := 4) rfl rfl (by decide) (by omega) dX4_laysWays_47 ?_
    refine x_iconst dX4_laysWays_48 ?_
    refine x_iadd dX4_laysWays_49 ?_
    rw [hc, show (c : Int) - 1 + 1 = (c : Int) by omega]
    refine m_iast (n := 4) rfl rfl (by decide) (by omega) dX4_laysWays_50 ?_
    rw [hJ1]
    refine x_aload_n dX4_laysWays_51 rfl ?_
    refine m_getA (kf := 38) 38 (a := 386) (by decide) rfl rfl q2153 rfl rfl dX4_laysWays_52 ?_
    refine x_iload_n dX4_laysWays_55 rfl ?_
    refine m_iald (n := 4) rfl rfl (by decide) (by omega) dX4_laysWays_56 ?_
    rw [hg1]
    refine x_aload_n dX4_laysWays_57 rfl ?_
    refine m_getI (kf := 25) 25 (by decide) rfl rfl q2140 rfl dX4_laysWays_58 ?_
    rw [e25', h25]
    refine x_icmp_lt (t := 70) dX4_laysWays_61 (by decide) (by omega) (fun c_61 => ?_) (fun c_61 => ?_)
    · skip
      have hcL : c < L.length := by omega
      rw [subs_st _ hcL] at htot
      have hWy1 := WyOK_eqx h heI1
      have hcb := c_canBe hWy1 (by omega) hgv1 hg1 hcL
      rw [heI1.1 385 (by decide) (by decide), heI1.1 383 (by decide) (by decide), hN1] at hcb
      refine x_aload_n dX4_laysWays_70 rfl ?_
      refine x_iload_n dX4_laysWays_71 rfl ?_
      refine m_cv1 (hcb) fX4_canBe q2674 (by decide) (Nat.le_of_ble_eq_true rfl) dX4_laysWays_72 ?_
      refine x_if_eq_b (t := 27) dX4_laysWays_75 (by decide) (fun c_75 => ?_) (fun c_75 => ?_)
      · skip
        have hwy : wyF I L k pre c = [] := by unfold wyF; rw [if_neg c_75]
        rw [hwy, List.nil_append] at htot
        have hgo := hnxt hcL J1 done heI1 hgv1 hg1 hdn1 htot
        exact x_loc (by repeat first | exact trivial | refine ⟨Or.inr rfl, ?_⟩ | refine ⟨Or.inl rfl, ?_⟩) hgo
      · skip
        have hwy : wyF I L k pre c = waysN (I 385) (I 383) L (fun m => nmL I m) k (pre ++ [c]) := by unfold wyF; rw [if_pos c_75]
        rw [hwy] at htot
        refine x_iload_n dX4_laysWays_78 rfl ?_
        refine x_aload_n dX4_laysWays_79 rfl ?_
        refine m_getI (kf := 12) 12 (by decide) rfl rfl q2127 rfl dX4_laysWays_80 ?_
        rw [e12']
        refine x_iconst dX4_laysWays_83 ?_
        refine x_isub dX4_laysWays_84 ?_
        refine x_icmp_ne (t := 95) dX4_laysWays_85 (by decide) (by omega) (fun c_85 => ?_) (fun c_85 => ?_)
        · skip
          refine x_iinc dX4_laysWays_95 rfl (by decide) ?_
          refine x_aload_n dX4_laysWays_98 rfl ?_
          refine m_getA (kf := 38) 38 (a := 386) (by decide) rfl rfl q2153 rfl rfl dX4_laysWays_99 ?_
          refine x_iload_n dX4_laysWays_102 rfl ?_
          refine x_iconst dX4_laysWays_103 ?_
          refine m_iast (n := 4) rfl rfl (by decide) (by omega) dX4_laysWays_104 ?_
          refine x_goto (t := 27) dX4_laysWays_105 (by decide) ?_
          obtain ⟨k', rfl⟩ : ∃ k', k = k' + 1 := ⟨k - 1, by omega⟩
          generalize hJ2 : rr_u2 J1 386 ((pre.length : Int) + 1) (-1) = J2
          have e2 : eqx J1 J2 [386] [] := by
            rw [← hJ2]
            exact ⟨fun x a b => by funext j; simp at b; rw [rr_u2_ne _ _ (by omega)], fun j hj => by rw [rr_u2_ne _ _ (by omega)]⟩
          have heI2 : eqx I J2 [386, 387] [40] := heI1.tr (e2.mono (by decide) (by decide))
          have hN2 := nmL_eqx heI2
          have hgv2 : GvE J2 L (pre ++ [c]) := fun m hm => by
            simp only [List.length_append, List.length_singleton] at hm
            have hsame : J2 386 m = J1 386 m := by rw [← hJ2, rr_u2_ne _ _ (by omega)]
            by_cases e : m = pre.length
            · rw [show (pre ++ [c]).getD m 0 = c by rw [e]; simp, hsame, hN2, e]
              exact ⟨hg1, hcL, c_75.1.1⟩
            · rw [show (pre ++ [c]).getD m 0 = pre.getD m 0 by simp [List.getD_eq_getElem?_getD, List.getElem?_append_left (show m < pre.length by omega)], hsame, hN2, ← hN1]
              exact hgv1 m (by omega)
          have hdn2 : DnE J2 done := by
            unfold DnE
            rw [e2.2 40 (by decide), e2.2 12 (by decide), e2.1 387 (by decide) (by decide)]
            exact hdn1
          have hgo := hIH k' rfl (pre ++ [c]) 0 done (subs (wyF I L (k' + 1) pre) (L.length - (c + 1)) (c + 1) ++ rest) J2 (by simp; omega) heI2 hgv2 (by rw [← hJ2]; simp [rr_u2]) (by omega) hdn2 (by rw [htot, List.append_assoc]; rfl) (fun J' done' a1 a2 a3 a4 => by
            obtain ⟨b1, b2⟩ := a2.sub
            have := hnxt hcL J' done' a1 b1 b2 a3 a4
            exact x_loc (by rw [show (((pre ++ [c]).length : Nat) : Int) - 1 = (pre.length : Int) by simp]; exact (by repeat first | exact trivial | refine ⟨Or.inr rfl, ?_⟩ | refine ⟨Or.inl rfl, ?_⟩)) this)
          exact x_loc (by rw [show (((pre ++ [c]).length : Nat) : Int) = (pre.length : Int) + 1 by simp]; exact (by repeat first | exact trivial | refine ⟨Or.inr rfl, ?_⟩ | refine ⟨Or.inl rfl, ?_⟩)) hgo
        · skip
          refine x_aload_n dX4_laysWays_88 rfl ?_
          refine m_cw0 (c_takesWay (by omega) (by rw [hdn1.1]; omega)) fX4_takesWay q2682 (by decide) (Nat.le_of_ble_eq_true rfl) dX4_laysWays_89 ?_
          refine x_goto (t := 27) dX4_laysWays_92 (by decide) ?_
          have hk0 : k = 0 := by omega
          subst hk0
          have e401 := hdn1.1
          have e1 : eqx J1 (if J1 360 40 = 0 then fl J1 387 0 (J1 360 12) (J1 386) else J1) [387] [] := by
            split
            · exact ⟨fun x a b => by funext j; simp at b; rw [fl_o _ _ _ _ _ (by omega)], fun j hj => by rw [fl_o _ _ _ _ _ (by omega)]⟩
            · exact eqx.rf _ _ _
          have e387 : ∀ i : Nat, (i : Int) < I 360 12 → (if J1 360 40 = 0 then fl J1 387 0 (J1 360 12) (J1 386) else J1) 387 i = if done = [] then J1 386 i else J1 387 i := fun i hi => by
            by_cases e : done = []
            · rw [if_pos e, if_pos (by rw [e401, e]; rfl)]
              simp only [fl]
              rw [if_pos ⟨trivial, by omega, by omega⟩]
            · rw [if_neg e, if_neg (fun z => e (List.length_eq_zero_iff.mp (by omega)))]
          generalize (if J1 360 40 = 0 then fl J1 387 0 (J1 360 12) (J1 386) else J1) = J2 at *
          have e2 : eqx J1 (rr_u2 J2 360 40 (J1 360 40 + 1)) [387] [40] := (e1.mono (by decide) (by decide)).tr ((eqx_u2 _ 40 _).mono (by decide) (by decide))
          have e23 : rr_u2 J2 360 40 (J1 360 40 + 1) 387 = J2 387 := by funext j; rw [rr_u2_ne _ _ (by omega)]
          have e240 : rr_u2 J2 360 40 (J1 360 40 + 1) 360 40 = J1 360 40 + 1 := rr_u2_same _ _ _ _
          generalize rr_u2 J2 360 40 (J1 360 40 + 1) = J3 at *
          have heI3 : eqx I J3 [386, 387] [40] := heI1.tr (e2.mono (by decide) (by decide))
          have e386 : J3 386 = J1 386 := e2.1 386 (by decide) (by decide)
          have hN3 := nmL_eqx heI3
          refine hnxt hcL J3 (done ++ [pre ++ [c]]) heI3 (fun m hm => ?_) (by rw [e386]; exact hg1) ⟨by rw [e240, e401]; simp, by simp; omega, fun q hq i hi => ?_⟩ (by rw [htot]; simp [waysN])
          · rw [e386, hN3, ← hN1]; exact hgv1 m hm
          · rw [heI3.2 12 (by decide)] at hi
            rw [e23, e387 i hi]
            by_cases e : done = []
            · rw [if_pos e]
              rw [e] at hq
              simp only [List.nil_append, List.head?_cons, Option.some.injEq] at hq
              rw [← hq]
              by_cases ei : i = pre.length
              · rw [ei, hg1]; simp
              · rw [(hgv1 i (by omega)).1, show (pre ++ [c]).getD i 0 = pre.getD i 0 by simp [List.getD_eq_getElem?_getD, List.getElem?_append_left (show i < pre.length by omega)]]
            · rw [if_neg e]
              refine hdn1.2.2 q ?_ i (by rw [e12']; exact hi)
              cases done with
              | nil => exact absurd rfl e
              | cons a d => simpa using hq
    · skip
      rw [subs_no _ (by omega), List.nil_append] at htot
      have hgo := hK J1 done heI1 hgv1 hdn1 htot
      refine x_iinc dX4_laysWays_64 rfl (by decide) ?_
      refine x_goto (t := 27) dX4_laysWays_67 (by decide) ?_
      exact x_loc (by rw [show (pre.length : Int) + -1 = (pre.length : Int) - 1 by omega]; exact (by repeat first | exact trivial | refine ⟨Or.inr rfl, ?_⟩ | refine ⟨Or.inl rfl, ?_⟩)) hgo
theorem c_laysWays_all {I : Nat → Int → Int} {L : List (List Int × Int)} {G : rr_G} {nx : Nat} (h : WyOK I L) : ∀ k, LvS I L G nx k := by
  intro k
  induction k with
  | zero => exact c_laysWays_in h (fun k' e => by omega)
  | succ k ih => exact c_laysWays_in h (fun k' e => by rw [show k' = k by omega]; exact ih)
theorem c_laysWays {I : Nat → Int → Int} {L : List (List Int × Int)} (h : WyOK I L) : mE yX4_laysWays cX4_laysWays 2 none 3 [vR (some 360)] I (WsPost I L) := by
  have h12 := h.2.2.2.1.1
  refine mE.of (by decide) rfl (Nat.le_of_ble_eq_true rfl) (fun G nx => ?_)
  refine x_ls (ls2 := [some (vR (some 360)), none]) rfl ?_
  have hall := c_laysWays_all (G := G) (nx := nx) h
  generalize hF : WsPost I L = F at *
  refine x_aload_n dX4_laysWays_0 rfl ?_
  refine x_iconst dX4_laysWays_1 ?_
  refine m_putI (kf := 40) 40 (by decide) rfl rfl q2155 rfl rfl (rr_nar_i _) dX4_laysWays_2 ?_
  refine x_aload_n dX4_laysWays_5 rfl ?_
  refine m_getI (kf := 12) 12 (by decide) rfl rfl q2127 rfl dX4_laysWays_6 ?_
  rw [rr_u2_ne _ _ (by omega)]
  refine x_if_ne (t := 18) dX4_laysWays_9 (by decide) (by omega) (fun c_9 => ?_) (fun c_9 => ?_)
  · skip
    refine x_iconst dX4_laysWays_18 ?_
    refine x_istore_n dX4_laysWays_19 (by decide) ?_
    refine x_aload_n dX4_laysWays_20 rfl ?_
    refine m_getA (kf := 38) 38 (a := 386) (by decide) rfl rfl q2153 rfl rfl dX4_laysWays_21 ?_
    refine x_iconst dX4_laysWays_24 ?_
    refine x_iconst dX4_laysWays_25 ?_
    refine m_iast (n := 4) rfl rfl (by decide) (by omega) dX4_laysWays_26 ?_
    generalize hJ : rr_u2 (rr_u2 I 360 40 0) 386 0 (-1) = J
    have he : eqx I J [386, 387] [40] := by
      rw [← hJ]
      exact ((eqx_u2 I 40 0).mono (by decide) (by decide)).tr ⟨fun x a b => by funext j; simp at b; rw [rr_u2_ne _ _ (by omega)], fun j hj => by rw [rr_u2_ne _ _ (by omega)]⟩
    have hgo := hall ((I 360 12).toNat - 1) [] 0 [] [] J (by simp; omega) he (fun m hm => by simp at hm) (by rw [← hJ]; simp [rr_u2]) (by omega) ⟨by rw [← hJ, rr_u2_ne _ _ (by omega), rr_u2_same]; rfl, by simp, fun q hq => by simp at hq⟩ (by
      rw [List.append_nil, List.nil_append]
      unfold wyAll
      rw [show (I 360 12).toNat = ((I 360 12).toNat - 1) + 1 by omega]
      rfl) (fun J' done' a1 a2 a3 a4 => by
      have hfin := DnE.fin a1 a3 a4 (Or.inr rfl)
      refine x_iload_n dX4_laysWays_27 rfl ?_
      refine x_if_lt (t := 108) dX4_laysWays_28 (by decide) (by simp) (fun _ => ?_) (fun z => absurd (by simp) z)
      refine x_vret rfl dX4_laysWays_108 (Nat.le_refl _) (Nat.le_refl _) ?_
      exact ⟨rfl, rfl, _, rfl, hfin⟩)
    rw [hF] at hgo
    exact x_loc (by repeat first | exact trivial | refine ⟨Or.inr rfl, ?_⟩ | refine ⟨Or.inl rfl, ?_⟩) hgo
  · skip
    refine x_aload_n dX4_laysWays_12 rfl ?_
    refine x_iconst dX4_laysWays_13 ?_
    refine m_putI (kf := 40) 40 (by decide) rfl rfl q2155 rfl rfl (rr_nar_i _) dX4_laysWays_14 ?_
    refine x_vret rfl dX4_laysWays_17 (Nat.le_refl _) (Nat.le_refl _) ?_
    refine ⟨rfl, rfl, _, rfl, ?_⟩
    have hw : wyAll I L = [[]] := by unfold wyAll; rw [show (I 360 12).toNat = 0 by omega]; rfl
    rw [← hF]
    refine ⟨((eqx_u2 _ 40 _).mono (by decide) (by decide)).tr ((eqx_u2 _ 40 _).mono (by decide) (by decide)), ?_, fun q hq i hi => by omega⟩
    rw [rr_u2_same, hw]
    rfl
def WyPost (I : Nat → Int → Int) (n z : Int) (J : Nat → Int → Int) : Prop := Keep I J ∧ ((¬ (-1 ≤ n ∧ n < I 360 12) ∧ z = -1) ∨ ((-1 ≤ n ∧ n < I 360 12) ∧ Laid J ∧ ((n = -1 ∧ z = min 999 ((wyAll J (lxI J)).length : Int)) ∨ (0 ≤ n ∧ ((wyAll J (lxI J) = [] ∧ z = -2) ∨ ∃ q t, wyAll J (lxI J) = q :: t ∧ z = (q.getD n.toNat 0 : Nat))))))
theorem c_ways {I : Nat → Int → Int} {n : Int} (hn : i32 n) (h : MI I) (hN : NmOK I) : mQ yX4_ways cX4_ways 2 (some FieldType.int) 6 [vR (some 360), vI n] I (WyPost I n) := by
  have h4 := h.1.1.2.1
  have h12 := hN.1
  refine mQ.of (by decide) rfl (Nat.le_of_ble_eq_true rfl) (fun G nx => ?_)
  refine x_ls (ls2 := [some (vR (some 360)), some (vI n)]) rfl ?_
  refine x_iload_n dX4_ways_0 rfl ?_
  refine x_iconst dX4_ways_1 ?_
  refine x_aload_n dX4_ways_2 rfl ?_
  refine m_getI (kf := 12) 12 (by decide) rfl rfl q2127 rfl dX4_ways_3 ?_
  refine x_iconst dX4_ways_6 ?_
  refine x_isub dX4_ways_7 ?_
  refine m_cs3 (c_in (by omega) (by omega) (by omega)) fX4_in q2299 (by decide) (Nat.le_of_ble_eq_true rfl) dX4_ways_8 ?_
  refine x_if_ne_b (t := 16) dX4_ways_11 (by decide) (fun c_11 => ?_) (fun c_11 => ?_)
  · skip
    refine x_aload_n dX4_ways_16 rfl ?_
    refine m_ew0 (c_lays h.1 h.2) fX4_lays q2398 (by decide) (Nat.le_of_ble_eq_true rfl) dX4_ways_17 (fun J hJ => ?_)
    have hLd := hJ.2.1
    have e4 := hJ.1.2 4 (by decide)
    have e12 := hJ.1.2 12 (by decide)
    have hst : StOK J := StOK_eqx h.1.1 hJ.1 (by decide) (by decide) (by decide) (by decide) (by decide)
    have hgs := GsOK_eqx h.1.2.2.2.2.2.2 (hJ.1.1 369 (by decide) (by decide))
    have hNJ : NmOK J := NmOK_eqx hN (hJ.1.1 367 (by decide) (by decide)) (hJ.1.1 368 (by decide) (by decide)) e12
    have hgi : GrIn J := fun k f hk h1 h2 => by
      rcases hk with rfl | rfl
      · exact (hLd.g0.1 f h1 h2).1
      · exact (hLd.g1.1 f h1 h2).1
    have hWy : WyOK J (lxI J) := ⟨by omega, hLd.wf hst, hLd.ki hgs (by omega), hNJ, hgi⟩
    refine x_aload_n dX4_ways_20 rfl ?_
    refine m_ew0 (c_laysWays hWy) fX4_laysWays q2670 (by decide) (Nat.le_of_ble_eq_true rfl) dX4_ways_21 (fun K hK => ?_)
    obtain ⟨k1, k2, k3⟩ := hK
    have hLdK : Laid K := Laid_eqx hLd k1 (by decide) (by decide)
    have hKp : Keep I K := ⟨(hJ.1.mono (by decide) (by decide)).tr (k1.mono (by decide) (by decide)), Or.inr ⟨by rw [k1.2 45 (by decide)]; exact hJ.2.2, hLdK⟩⟩
    have hR : m_rows K = m_rows J := m_rows_eq (k1.1 364 (by decide) (by decide)) (k1.1 365 (by decide) (by decide)) (k1.1 366 (by decide) (by decide)) (k1.1 369 (by decide) (by decide)) (k1.1 371 (by decide) (by decide)) (k1.2 8 (by decide))
    have hlx : lxI K = lxI J := by unfold lxI wsI; rw [hR, k1.1 369 (by decide) (by decide)]
    have hwy : wyAll K (lxI K) = wyAll J (lxI J) := by unfold wyAll; rw [hlx, nmL_eqx k1, k1.1 385 (by decide) (by decide), k1.1 383 (by decide) (by decide), k1.2 12 (by decide)]
    have hin : 0 ≤ K 360 40 ∧ K 360 40 ≤ 999 := by rw [k2]; omega
    refine x_iload_n dX4_ways_24 rfl ?_
    refine x_iconst dX4_ways_25 ?_
    refine x_icmp_ne (t := 36) dX4_ways_26 (by decide) (by omega) (fun c_26 => ?_) (fun c_26 => ?_)
    · skip
      refine x_aload_n dX4_ways_36 rfl ?_
      refine m_getI (kf := 40) 40 (by decide) rfl rfl q2155 rfl dX4_ways_37 ?_
      refine x_if_ne (t := 48) dX4_ways_40 (by decide) (by omega) (fun c_40 => ?_) (fun c_40 => ?_)
      · skip
        refine x_aload_n dX4_ways_48 rfl ?_
        refine m_getA (kf := 39) 39 (a := 387) (by decide) rfl rfl q2154 rfl rfl dX4_ways_49 ?_
        refine x_iload_n dX4_ways_52 rfl ?_
        refine m_iald (n := 4) rfl rfl (by decide) (by omega) dX4_ways_53 ?_
        refine x_iret rfl dX4_ways_54 (Nat.le_refl _) (Nat.le_refl _) ?_
        refine ⟨_, rfl, rfl, _, rfl, hKp, Or.inr ⟨by omega, hLdK, Or.inr ⟨by omega, Or.inr ?_⟩⟩⟩
        rw [hwy]
        cases hc : wyAll J (lxI J) with
        | nil => rw [hc] at k2; simp at k2; omega
        | cons q t =>
          refine ⟨q, t, rfl, ?_⟩
          have := k3 q (by rw [hc]; rfl) n.toNat (by omega)
          rw [show ((n.toNat : Nat) : Int) = n by omega] at this
          exact this
      · skip
        refine x_bipush dX4_ways_43 (by decide) ?_
        refine x_goto (t := 54) dX4_ways_45 (by decide) ?_
        refine x_iret rfl dX4_ways_54 (Nat.le_refl _) (Nat.le_refl _) ?_
        exact ⟨_, rfl, rfl, _, rfl, hKp, Or.inr ⟨by omega, hLdK, Or.inr ⟨by omega, Or.inl ⟨by rw [hwy]; exact List.length_eq_zero_iff.mp (by omega), rfl⟩⟩⟩⟩
    · skip
      refine x_aload_n dX4_ways_29 rfl ?_
      refine m_getI (kf := 40) 40 (by decide) rfl rfl q2155 rfl dX4_ways_30 ?_
      refine x_goto (t := 54) dX4_ways_33 (by decide) ?_
      refine x_iret rfl dX4_ways_54 (Nat.le_refl _) (Nat.le_refl _) ?_
      exact ⟨_, rfl, rfl, _, rfl, hKp, Or.inr ⟨by omega, hLdK, Or.inl ⟨c_26, by rw [hwy]; exact k2⟩⟩⟩
  · skip
    refine x_iconst dX4_ways_14 ?_
    refine x_iret rfl dX4_ways_15 (Nat.le_refl _) (Nat.le_refl _) ?_
    exact ⟨_, rfl, rfl, _, rfl, Keep.rf h.2, Or.inl ⟨by omega, rfl⟩⟩
