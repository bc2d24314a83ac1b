set_option maxRecDepth 100000
/-! THE MODEL's methods, 34: test() -/
theorem shN_cg : ∀ (k : Nat) (n : Int) (x : Int) (v v' : Int → Int), (k : Int) < n → (∀ i, 0 ≤ i → i < n → v i = v' i) → (shN k x v).1 = (shN k x v').1 ∧ ∀ i, 0 ≤ i → i < n → (shN k x v).2 i = (shN k x v').2 i := by
  intro k
  induction k with
  | zero => intro n x v v' hk h; exact ⟨rfl, h⟩
  | succ k ih =>
    intro n x v v' hk h
    simp only [shN]
    refine ih n _ _ _ (by omega) (fun i h1 h2 => ?_)
    have ho : 0 ≤ nxX x / 65536 % ((k : Int) + 2) ∧ nxX x / 65536 % ((k : Int) + 2) < (k : Int) + 2 := ⟨Int.emod_nonneg _ (by omega), Int.emod_lt_of_pos _ (by omega)⟩
    simp only [swp]
    split
    · exact h _ (by omega) (by omega)
    · split
      · exact h _ (by omega) (by omega)
      · exact h i h1 h2
theorem shN_in : ∀ (k : Nat) (n : Int) (x : Int) (v : Int → Int), (k : Int) < n → (∀ i, 0 ≤ i → i < n → 0 ≤ v i ∧ v i < 50) → ∀ i, 0 ≤ i → i < n → 0 ≤ (shN k x v).2 i ∧ (shN k x v).2 i < 50 := by
  intro k
  induction k with
  | zero => intro n x v hk h; exact h
  | succ k ih =>
    intro n x v hk h
    simp only [shN]
    refine ih n _ _ (by omega) (fun i h1 h2 => ?_)
    have ho : 0 ≤ nxX x / 65536 % ((k : Int) + 2) ∧ nxX x / 65536 % ((k : Int) + 2) < (k : Int) + 2 := ⟨Int.emod_nonneg _ (by omega), Int.emod_lt_of_pos _ (by omega)⟩
    simp only [swp]
    split
    · exact h _ (by omega) (by omega)
    · split
      · exact h _ (by omega) (by omega)
      · exact h i h1 h2
theorem shN_x : ∀ (k : Nat) (x : Int) (v : Int → Int), (0 ≤ x ∧ x < 2147483648) → 0 ≤ (shN k x v).1 ∧ (shN k x v).1 < 2147483648 := by
  intro k
  induction k with
  | zero => intro x v h; exact h
  | succ k ih => intro x v h; exact ih _ _ (nxX_in x)
/-- what is known by the values m of the signs l -/
def knC (l : List Int) (m : Int → Int) (j : Int) : Int := if j < 20 then (if l.idxOf j < l.length then m (l.idxOf j : Nat) / 5 else -1) else (if l.idxOf (j - 20) < l.length then m (l.idxOf (j - 20) : Nat) % 5 else -1)
theorem KnM.can {J : Nat → Int → Int} {l : List Int} {m : Int → Int} (h : KnM J l m l.length) {f : Int} (hf : 0 ≤ f ∧ f < 20) : J 385 f = knC l m f ∧ J 385 (20 + f) = knC l m (20 + f) := by
  unfold knC
  rw [if_pos hf.2, if_neg (show ¬ 20 + f < 20 by omega), show 20 + f - 20 = f by omega]
  by_cases e : l.idxOf f < l.length
  · rw [if_pos e, if_pos e]
    have hg : l.getD (l.idxOf f) 0 = f := by
      rw [List.getD_eq_getElem?_getD, List.getElem?_eq_getElem e]
      simp
    have := h.1 (l.idxOf f) e
    rw [hg] at this
    exact this
  · rw [if_neg e, if_neg e]
    refine h.2 f hf.1 hf.2 (fun i hi z => e ?_)
    apply List.idxOf_lt_length_of_mem
    rw [← z, List.getD_eq_getElem?_getD, List.getElem?_eq_getElem hi]
    exact List.getElem_mem hi
theorem hitV_cg {L : List (List Int × Int)} {nms : List (List Int)} {kn kn' : Int → Int} (hL : ∀ q ∈ L, ∀ c ∈ q.1, 0 ≤ c ∧ c < 20) (h : ∀ f, 0 ≤ f → f < 20 → kn f = kn' f ∧ kn (20 + f) = kn' (20 + f)) (hnm : ∀ i, i < nms.length → (nms.getD i []).length ≤ 7) : hitV L nms kn = hitV L nms kn' := by
  have hwd : ∀ w k, k < (wdL L w).length → 0 ≤ (wdL L w).getD k 0 ∧ (wdL L w).getD k 0 < 20 := fun w k hk => by
    unfold wdL at *
    by_cases e : w.toNat < L.length
    · rw [List.getD_eq_getElem?_getD (l := L), List.getElem?_eq_getElem e] at hk ⊢
      simp only [Option.getD_some] at hk ⊢
      rw [List.getD_eq_getElem?_getD, List.getElem?_eq_getElem hk]
      exact hL _ (List.getElem_mem _) _ (List.getElem_mem _)
    · rw [List.getD_eq_getElem?_getD (l := L), List.getElem?_eq_none (by omega)] at hk
      simp at hk
  have e1 : ∀ w, whlW kn (wdL L w) = whlW kn' (wdL L w) := fun w => by
    unfold whlW
    apply propext
    constructor
    · intro z k hk
      obtain ⟨a, b⟩ := h _ (hwd w k hk).1 (hwd w k hk).2
      rw [← a, ← b]; exact z k hk
    · intro z k hk
      obtain ⟨a, b⟩ := h _ (hwd w k hk).1 (hwd w k hk).2
      rw [a, b]; exact z k hk
  have e2 : ∀ w nm, fitW kn (wdL L w) nm = fitW kn' (wdL L w) nm := fun w nm => by
    unfold fitW fitK
    apply propext
    have key : ∀ k, k < (wdL L w).length → ∀ e, (e = 0 ∨ e = 1) → kn (20 * e + (wdL L w).getD k 0) = kn' (20 * e + (wdL L w).getD k 0) := fun k hk e he => by
      obtain ⟨a, b⟩ := h _ (hwd w k hk).1 (hwd w k hk).2
      rcases he with rfl | rfl
      · rw [show 20 * 0 + (wdL L w).getD k 0 = (wdL L w).getD k 0 by omega]; exact a
      · rw [show 20 * 1 + (wdL L w).getD k 0 = 20 + (wdL L w).getD k 0 by omega]; exact b
    constructor
    · rintro ⟨z1, z2⟩
      refine ⟨z1, fun k hk => ⟨fun e he => ?_, (z2 k hk).2⟩⟩
      rw [← key k (by omega) e he]; exact (z2 k hk).1 e he
    · rintro ⟨z1, z2⟩
      refine ⟨z1, fun k hk => ⟨fun e he => ?_, (z2 k hk).2⟩⟩
      rw [key k (by omega) e he]; exact (z2 k hk).1 e he
  unfold hitV
  simp only [e1, e2]
theorem hitV_in (L : List (List Int × Int)) (nms : List (List Int)) (kn : Int → Int) : 0 ≤ hitV L nms kn ∧ hitV L nms kn ≤ nms.length * L.length := by
  unfold hitV
  have := itr_inv (fun w n => itr (fun i n => n + bi (whlW kn (wdL L w) ∧ fitW kn (wdL L w) (nms.getD i.toNat []))) 0 nms.length n) 0 L.length 0 (fun i v => 0 ≤ v ∧ v ≤ nms.length * i) (by simp) (fun i v h1 h2 h3 => by
    have h4 := itr_in (fun j n => n + bi (whlW kn (wdL L i) ∧ fitW kn (wdL L i) (nms.getD j.toNat []))) 0 nms.length v v v (by omega) (by omega) (fun j u _ _ => by have := bi_01 (whlW kn (wdL L i) ∧ fitW kn (wdL L i) (nms.getD j.toNat [])); omega)
    rw [Int.mul_add]
    omega)
  rw [show max (0 : Int) (L.length : Int) = L.length by omega] at this
  exact this
theorem Laid_kn {I J : Nat → Int → Int} (h : Laid I) (he : eqx I J [385, 388, 389, 390] []) (hk : ∀ k f, (k = 0 ∨ k = 1) → 0 ≤ f → f < J 360 4 → J 385 (20 * k + f) = knV J k f) : Laid J := by
  have a : ∀ x ∈ LA.dropLast, J x = I x := fun x h1 => he.1 x (by revert h1; revert x; decide) (by revert h1; revert x; decide)
  have b : ∀ f, J 360 f = I 360 f := fun f => he.2 f (by simp)
  have hR : m_rows J = m_rows I := m_rows_eq (a 364 (by decide)) (a 365 (by decide)) (a 366 (by decide)) (a 369 (by decide)) (a 371 (by decide)) (b 8)
  have hw : wsI J = wsI I := by unfold wsI; rw [hR, a 369 (by decide)]
  have hl : lxI J = lxI I := by unfold lxI; rw [hw]
  have hC : CL J (lxI J) = CL I (lxI I) := by rw [hl]; exact CL_eq _ (a 369 (by decide)) (a 371 (by decide))
  refine ⟨?_, ?_, ?_, ?_, ?_, ?_, ?_, ?_, ?_, ?_, hk⟩
  · rw [a 371 (by decide), b 4, lk_eq (a 362 (by decide)) (a 369 (by decide))]; exact h.sg
  · rw [a 371 (by decide), b 4, b 19]; exact h.sm
  · exact SgOK_eqx h.so (a 371 (by decide)) (b 4)
  · rw [hR]
    have := h.re
    unfold RE at *
    rw [a 373 (by decide), a 374 (by decide), b 23]
    exact this
  · rw [hl]
    have := h.we
    unfold WE enI at *
    rw [a 376 (by decide), a 377 (by decide), a 378 (by decide), b 25]
    exact this
  · rw [hw, b 26]; exact h.wm
  · rw [hw, a 379 (by decide), a 380 (by decide)]; exact h.ht
  · rw [hC]; exact CE_eqx h.ce (a 382 (by decide))
  · rw [hC]; exact GrFin_eqx h.g0 (a 371 (by decide)) (b 4) (fun f _ _ => by rw [a 383 (by decide)])
  · rw [hC]; exact GrFin_eqx h.g1 (a 371 (by decide)) (b 4) (fun f _ _ => by rw [a 383 (by decide)])
noncomputable def tsR (hit : (Int → Int) → Int) (most : Int) (l : List Int) (v : Int → Int) : Nat → Int → Int
  | 0, _ => 0
  | k + 1, x => bi (most ≤ hit (knC l (shN (l.length - 1) x v).2)) + tsR hit most l v k (shN (l.length - 1) x v).1
def vlL (J : Nat → Int → Int) (l : List Int) : Int → Int := fun i => vlF J (l.getD i.toNat 0)
noncomputable def v_test (m : Int) (J : Nat → Int → Int) : Int := if 1 ≤ m ∧ m ≤ 50 then tsR (hitV (lxI J) (nmsL J)) (hitV (lxI J) (nmsL J) (J 385)) (wlL J) (vlL J (wlL J)) m.toNat (J 360 41) else -1
