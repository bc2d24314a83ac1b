set_option maxRecDepth 100000
/-! THE MODEL's methods, 39: stems -/
theorem endV_tb {L : List (List Int × Int)} {P : List Int} (h20 : ∀ w : Nat, w < L.length → mtc P (wdL L w) → 0 ≤ (wdL L w).getD P.length 0 ∧ (wdL L w).getD P.length 0 < 20) {c : Int} (hc : 0 ≤ c ∧ c < 32) : tb (endV L P) c ↔ ∃ w : Nat, w < L.length ∧ mtc P (wdL L w) ∧ (wdL L w).getD P.length 0 = c := by
  unfold endV
  have key := itr_inv (fun w s => rr_or s (@ite _ (mtc P (wdL L w)) (Classical.propDecidable _) (rr_shl 1 ((wdL L w).getD P.length 0)) 0)) 0 L.length 0 (fun i s => tb s c ↔ ∃ w : Nat, (w : Int) < i ∧ mtc P (wdL L w) ∧ (wdL L w).getD P.length 0 = c) ⟨fun z => absurd z (tb_0 c), fun ⟨w, z, _⟩ => by omega⟩ (fun i s h1 h2 h3 => by
    obtain ⟨w, rfl⟩ : ∃ w : Nat, i = w := ⟨i.toNat, by omega⟩
    rw [tb_or, h3]
    constructor
    · rintro (⟨v, v1, v2⟩ | z)
      · exact ⟨v, by omega, v2⟩
      · by_cases e : mtc P (wdL L w)
        · rw [if_pos e] at z
          have hb := h20 w (by omega) e
          exact ⟨w, by omega, e, ((tb_shl1 (by omega) hc).mp z).symm⟩
        · rw [if_neg e] at z
          exact absurd z (tb_0 c)
    · rintro ⟨v, v1, v2, v3⟩
      by_cases e : v = w
      · subst e
        rw [if_pos v2]
        have hb := h20 v (by omega) v2
        exact Or.inr ((tb_shl1 (by omega) hc).mpr v3.symm)
      · exact Or.inl ⟨v, by omega, v2, v3⟩)
  rw [show max (0 : Int) (L.length : Int) = L.length by omega] at key
  rw [key]
  constructor
  · rintro ⟨w, w1, w2⟩; exact ⟨w, by omega, w2⟩
  · rintro ⟨w, w1, w2⟩; exact ⟨w, by omega, w2⟩
/-- the first word of a stem that has endings -/
noncomputable def setW (L : List (List Int × Int)) (p : List Int) : Int := if p.length - 1 < 2 then 0 else endV L (stm p)
def gdW (L : List (List Int × Int)) (p : List Int) : Prop := 2 ≤ p.length - 1 ∧ 2 ≤ bcx (endV L (stm p)) ∧ ∀ w : Nat, w < L.length → mtc (stm p) (wdL L w) → lst p ≤ lst (wdL L w)
def posS (L : List (List Int × Int)) (S : List Nat) (p : List Int) : Nat → Nat
  | 0 => 0
  | k + 1 => if lcmp (stm p) (stm (wdL L (S.getD k 0 : Nat))) < 0 then posS L S p k else k + 1
def insS (L : List (List Int × Int)) (S : List Nat) (w : Nat) : List Nat := S.take (posS L S (wdL L w) S.length) ++ w :: S.drop (posS L S (wdL L w) S.length)
noncomputable def stL (L : List (List Int × Int)) : Nat → List Nat
  | 0 => []
  | k + 1 => @ite _ (gdW L (wdL L k)) (Classical.propDecidable _) (insS L (stL L k) k) (stL L k)
theorem posS_le (L : List (List Int × Int)) (S : List Nat) (p : List Int) : ∀ k, posS L S p k ≤ k := by
  intro k
  induction k with
  | zero => exact Nat.le_refl _
  | succ k ih =>
    simp only [posS]
    split
    · omega
    · exact Nat.le_refl _
theorem stL_in (L : List (List Int × Int)) : ∀ k, (stL L k).length ≤ k ∧ ∀ w ∈ stL L k, w < k := by
  intro k
  induction k with
  | zero => simp [stL]
  | succ k ih =>
    simp only [stL]
    split
    · unfold insS
      have hp := posS_le L (stL L k) (wdL L k) (stL L k).length
      refine ⟨by simp; omega, fun w hw => ?_⟩
      simp only [List.mem_append, List.mem_cons] at hw
      rcases hw with z | z | z
      · have := ih.2 w (List.mem_of_mem_take z); omega
      · omega
      · have := ih.2 w (List.mem_of_mem_drop z); omega
    · exact ⟨by omega, fun w hw => by have := ih.2 w hw; omega⟩
/-- the stems S stand in their array -/
def StE (J : Nat → Int → Int) (S : List Nat) : Prop := J 360 32 = S.length ∧ ∀ i : Nat, i < S.length → J 381 i = (S.getD i 0 : Nat)
def SmPost (I : Nat → Int → Int) (L : List (List Int × Int)) (J : Nat → Int → Int) : Prop := eqx I J [375, 381] [32] ∧ StE J (stL L L.length)
/-- ntz of the endings -/
theorem ntz_gd {L : List (List Int × Int)} {p : List Int} (hok : ∀ w : Nat, w < L.length → WOK (wdL L w)) {w0 : Nat} (hw0 : w0 < L.length) (hp : wdL L w0 = p) (h2 : 2 ≤ p.length - 1) : ∃ t : Nat, t < 20 ∧ tb (endV L (stm p)) t ∧ (∀ j : Nat, j < t → ¬ tb (endV L (stm p)) j) ∧ ((∀ w : Nat, w < L.length → mtc (stm p) (wdL L w) → lst p ≤ lst (wdL L w)) ↔ (t : Int) = lst p) := by
  have hpo : WOK p := hp ▸ hok w0 hw0
  have hlast : ∀ w : Nat, w < L.length → mtc (stm p) (wdL L w) → (wdL L w).getD (stm p).length 0 = lst (wdL L w) ∧ 0 ≤ lst (wdL L w) ∧ lst (wdL L w) < 20 := fun w hw hm => by
    have hl := hm.1
    have hwo := hok w hw
    have := hwo.at (k := (wdL L w).length - 1) (by omega)
    unfold lst
    rw [show (stm p).length = (wdL L w).length - 1 by omega]
    exact ⟨rfl, this⟩
  have htb := fun (c : Nat) (hc : c < 32) => endV_tb (L := L) (P := stm p) (fun w hw hm => by obtain ⟨a, b, c⟩ := hlast w hw hm; rw [a]; exact ⟨b, c⟩) (c := (c : Int)) (by omega)
  have hself : mtc (stm p) p := ⟨by rw [stm_len]; omega, by rw [stm_len]; rfl⟩
  have hm0 : mtc (stm p) (wdL L w0) := by rw [hp]; exact hself
  obtain ⟨a0, b0, c0⟩ := hlast w0 hw0 hm0
  have hex : ∃ t : Nat, tb (endV L (stm p)) t := ⟨(lst p).toNat, (htb _ (by rw [hp] at b0 c0; omega)).mpr ⟨w0, hw0, hm0, by rw [a0, hp]; rw [hp] at b0; omega⟩⟩
  obtain ⟨t, t1, t2⟩ := least_nat hex
  have ht20 : t < 20 := by
    rcases Nat.lt_or_ge t 32 with z | z
    · obtain ⟨w, w1, w2, w3⟩ := (htb t z).mp t1
      obtain ⟨a, b, c⟩ := hlast w w1 w2
      rw [a] at w3
      omega
    · exact absurd t1 (tb_big (by omega))
  refine ⟨t, ht20, t1, t2, ?_, ?_⟩
  · intro hall
    obtain ⟨w, w1, w2, w3⟩ := (htb t (by omega)).mp t1
    obtain ⟨a, b, c⟩ := hlast w w1 w2
    have h3 := hall w w1 w2
    rw [a] at w3
    rcases Int.lt_trichotomy (lst p) t with z | z | z
    · exfalso
      rw [hp] at b0
      refine t2 (lst p).toNat (by omega) ((htb _ (by omega)).mpr ⟨w0, hw0, hm0, by rw [a0, hp]; omega⟩)
    · exact z.symm
    · omega
  · intro he w hw hm
    obtain ⟨a, b, c⟩ := hlast w hw hm
    rw [← he]
    rcases Int.lt_or_le (lst (wdL L w)) t with z | z
    · exfalso
      exact t2 (lst (wdL L w)).toNat (by omega) ((htb _ (by omega)).mpr ⟨w, hw, hm, by rw [a]; omega⟩)
    · exact z
