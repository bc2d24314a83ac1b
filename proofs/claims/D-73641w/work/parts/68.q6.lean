/-! QUEUES 6: PriorityQueue: grow, offer, poll (printed by tools/gen_q6.py) -/
set_option maxRecDepth 100000
section PQ
variable {G : rr_G} {nx : Nat} {K N : Nat → Nat} {I : Nat → Int → Int} {R : Nat → Int → Option Nat} {A o P : Nat} {v : Nat → Nat} {n k : Nat} {c : Option Nat}
/-- a queue P with array A of n elements v, comparator c -/
def Pq (K N : Nat → Nat) (I : Nat → Int → Int) (R : Nat → Int → Option Nat) (P A n : Nat) (v : Nat → Nat) (c : Option Nat) : Prop := (K P = 21 ∧ K A = 67 ∧ 300 ≤ P ∧ 300 ≤ A) ∧ (R P 0 = some A ∧ I P 1 = (n : Int) ∧ R P 2 = c) ∧ (n ≤ N A ∧ 1 ≤ N A ∧ N A < 450) ∧ (∀ i : Nat, i < n → R A i = some (v i)) ∧ ∀ i : Int, (n : Int) ≤ i → i < (N A : Int) → R A i = none
def GrP (K N : Nat → Nat) (I : Nat → Int → Int) (R : Nat → Int → Option Nat) (nx P A : Nat) : rr_H → Nat → Prop := fun h2 n2 => n2 = nx + 1 ∧ ∃ (f : Int → Option Nat) (l : Nat), h2 = (rr_u1 K nx 67, rr_u1 N nx l, rr_u1 I nx (fun _ => 0), rr_u2 (rr_u1 R nx f) P 0 (some nx)) ∧ (N A < l ∧ l < 450) ∧ (∀ j, 0 ≤ j → j < (N A : Int) → f j = R A j) ∧ ∀ j, (N A : Int) ≤ j → f j = none
theorem jc_grow {z : Int} (hP : K P = 21) (hA : K A = 67) (hP3 : 300 ≤ P) (hq : R P 0 = some A) (hn : 1 ≤ N A ∧ N A < 260) (hz : z = (N A : Int) + 1) (hel : ∀ (j : Int) x, 0 ≤ j → j < (N A : Int) → R A j = some x → El K x) : gW G yJ30_grow cJ30_grow 4 (none) 3 1 450 [vR (some P), vI z] (K, N, I, R) nx (GrP K N I R nx P A) := by
  subst hz
  refine gW.of (by decide) rfl (Nat.le_of_ble_eq_true rfl) ?_
  refine x_ls (ls2 := [some (vR (some P)), some (vI ((N A : Int) + 1)), none, none]) rfl ?_
  refine x_live (fun hlv h3 => ?_)
  have hPx : P ≠ nx := by
    have := hlv P (by show K P ≠ 0; omega)
    omega
  have key : ∀ l : Nat, N A < l → l < 450 → gw G yJ30_grow cJ30_grow 4 (none) 3 1 450 (GrP K N I R nx P A) 29 [some (vR (some P)), some (vI ((N A : Int) + 1)), some (vI (N A : Int)), some (vI (l : Int))] [] (K, N, I, R) nx 0 0 := by
    intro l hl1 hl2
    refine x_aload_n dJ30_grow_29 rfl ?_
    refine x_aload_n dJ30_grow_30 rfl ?_
    refine g_getR 0 (r := some A) (ci := 21) (kf := 0) rfl (by decide) (by decide) rfl rfl q1541 rfl (by first | assumption | grind) (hq) dJ30_grow_31 ?_
    refine x_iload_n dJ30_grow_34 rfl ?_
    refine g_cs2 (jc_copyOf2 hA (by omega) (by omega) hel) fJ10_copyOf_2 q1602 (by decide) (Nat.le_of_ble_eq_true rfl) (by omega) (by omega) dJ30_grow_35 (fun v h2 n2 hp => ?_)
    obtain ⟨rfl, rfl, f, rfl, hf1, hf2⟩ := hp
    refine g_putR 0 (ci := 21) (kf := 0) rfl (by decide) (by decide) rfl rfl q1541 rfl (by simp [rr_u1, hPx, hP]) (by first | assumption | omega) (Or.inl rfl) dJ30_grow_38 ?_
    refine gw_vret rfl dJ30_grow_41 (by omega) (by omega) ?_
    exact ⟨rfl, f, l, rfl, ⟨hl1, hl2⟩, hf1, hf2⟩
  refine x_aload_n dJ30_grow_0 rfl ?_
  refine g_getR 0 (r := some A) (ci := 21) (kf := 0) rfl (by decide) (by decide) rfl rfl q1541 rfl (by first | assumption | grind) (hq) dJ30_grow_1 ?_
  refine g_alen (t := 3) rfl (by first | assumption | grind) (rfl) dJ30_grow_4 ?_
  refine x_istore_n dJ30_grow_5 (by decide) ?_
  refine x_iload_n dJ30_grow_6 rfl ?_
  refine x_iload_n dJ30_grow_7 rfl ?_
  refine x_iload_n dJ30_grow_8 rfl ?_
  refine x_isub dJ30_grow_9 ?_
  refine x_iload_n dJ30_grow_10 rfl ?_
  refine x_bipush dJ30_grow_11 (by decide) ?_
  refine x_icmp_ge (t := 22) dJ30_grow_13 (by decide) (by omega) (fun c_13 => ?_) (fun c_13 => ?_)
  · skip
    refine x_iload_n dJ30_grow_22 rfl ?_
    refine x_iconst dJ30_grow_23 ?_
    refine x_ishr dJ30_grow_24 ?_
    try rw [(rr_hf (show 0 ≤ (N A : Int) ∧ (N A : Int) < 1024 by omega)).2.1]
    refine g_cs3 (jc_newLength (by omega) (by omega) (by omega)) fJ9_newLength q1601 (by decide) (Nat.le_of_ble_eq_true rfl) (by omega) (by omega) dJ30_grow_25 (fun v h2 n2 hp => ?_)
    obtain ⟨rfl, rfl, rfl⟩ := hp
    refine x_istore_n dJ30_grow_28 (by decide) ?_
    refine x_loc (ls2 := [some (vR (some P)), some (vI ((N A : Int) + 1)), some (vI (N A : Int)), some (vI (((N A + max 1 (N A / 2) : Nat) : Int)))]) (by rw [show (((N A + max 1 (N A / 2) : Nat) : Int)) = (N A : Int) + max ((N A : Int) + 1 - (N A : Int)) ((N A : Int) / 2) by omega]; exact (by repeat first | exact trivial | refine ⟨Or.inr rfl, ?_⟩ | refine ⟨Or.inl rfl, ?_⟩)) ?_
    exact key _ (by omega) (by omega)
  · skip
    refine x_iload_n dJ30_grow_16 rfl ?_
    refine x_iconst dJ30_grow_17 ?_
    refine x_iadd dJ30_grow_18 ?_
    refine x_goto (t := 25) dJ30_grow_19 (by decide) ?_
    try rw [(rr_hf (show 0 ≤ (N A : Int) ∧ (N A : Int) < 1024 by omega)).2.1]
    refine g_cs3 (jc_newLength (by omega) (by omega) (by omega)) fJ9_newLength q1601 (by decide) (Nat.le_of_ble_eq_true rfl) (by omega) (by omega) dJ30_grow_25 (fun v h2 n2 hp => ?_)
    obtain ⟨rfl, rfl, rfl⟩ := hp
    refine x_istore_n dJ30_grow_28 (by decide) ?_
    refine x_loc (ls2 := [some (vR (some P)), some (vI ((N A : Int) + 1)), some (vI (N A : Int)), some (vI (((N A + max 1 (N A + 2) : Nat) : Int)))]) (by rw [show (((N A + max 1 (N A + 2) : Nat) : Int)) = (N A : Int) + max ((N A : Int) + 1 - (N A : Int)) ((N A : Int) + 2) by omega]; exact (by repeat first | exact trivial | refine ⟨Or.inr rfl, ?_⟩ | refine ⟨Or.inl rfl, ?_⟩)) ?_
    exact key _ (by omega) (by omega)
/-- behind offer, once there is room -/
def TlP (K N : Nat → Nat) (I : Nat → Int → Int) (R : Nat → Int → Option Nat) (nx P A : Nat) (pr : Nat → Int) (v : Nat → Nat) (n x : Nat) : rr_V → rr_H → Nat → Prop := fun w h2 n2 => w = vI 1 ∧ nx = n2 ∧ ∃ (R2 : Nat → Int → Option Nat) (v2 : Nat → Nat), h2 = (K, N, rr_u2 I P 1 ((n : Int) + 1), R2) ∧ (∀ i : Nat, i < n + 1 → R2 A i = some (v2 i)) ∧ Ho pr v2 (n + 1) ∧ Ij v2 (n + 1) ∧ (∀ y, Mm v2 (n + 1) y ↔ y = x ∨ Mm v n y) ∧ (∀ z, z ≠ A → R2 z = R z) ∧ ∀ i : Int, (i < 0 ∨ ((n + 1 : Nat) : Int) ≤ i) → R2 A i = R A i
def OfP (K N : Nat → Nat) (I : Nat → Int → Int) (R : Nat → Int → Option Nat) (nx P A : Nat) (c : Option Nat) (pr : Nat → Int) (v : Nat → Nat) (n x : Nat) : rr_V → rr_H → Nat → Prop := fun w h2 n2 => w = vI 1 ∧ (n2 = nx ∨ n2 = nx + 1) ∧ ∃ (K2 N2 : Nat → Nat) (I2 : Nat → Int → Int) (R2 : Nat → Int → Option Nat) (A2 : Nat) (v2 : Nat → Nat), h2 = (K2, N2, I2, R2) ∧ Pq K2 N2 I2 R2 P A2 (n + 1) v2 c ∧ I2 P 3 = I P 3 + 1 ∧ Ho pr v2 (n + 1) ∧ Ij v2 (n + 1) ∧ (∀ y, Mm v2 (n + 1) y ↔ y = x ∨ Mm v n y) ∧ (A2 = A ∨ A2 = nx) ∧ ∀ z, z < nx → z ≠ P → z ≠ A → K2 z = K z ∧ N2 z = N z ∧ I2 z = I z ∧ R2 z = R z
def PoP (K N : Nat → Nat) (I : Nat → Int → Int) (R : Nat → Int → Option Nat) (nx P A : Nat) (c : Option Nat) (pr : Nat → Int) (v : Nat → Nat) (n : Nat) : rr_V → rr_H → Nat → Prop := fun w h2 n2 => w = vR (some (v 0)) ∧ nx = n2 ∧ ∃ (I2 : Nat → Int → Int) (R2 : Nat → Int → Option Nat) (v2 : Nat → Nat), h2 = (K, N, I2, R2) ∧ Pq K N I2 R2 P A (n - 1) v2 c ∧ I2 P 3 = I P 3 + 1 ∧ Ho pr v2 (n - 1) ∧ Ij v2 (n - 1) ∧ (∀ y, Mm v2 (n - 1) y ↔ Mm v n y ∧ y ≠ v 0) ∧ (∀ z, z ≠ P → I2 z = I z) ∧ ∀ z, z ≠ A → R2 z = R z
theorem Mm.add {x y : Nat} : Mm (fun i => if i = n then x else v i) (n + 1) y ↔ y = x ∨ Mm v n y := by
  constructor
  · rintro ⟨i, hi, rfl⟩
    by_cases h : i = n
    · left; simp [h]
    · right; exact ⟨i, by omega, by simp [h]⟩
  · rintro (rfl | ⟨i, hi, rfl⟩)
    · exact ⟨n, by omega, by simp⟩
    · exact ⟨i, by omega, by simp [show i ≠ n by omega]⟩
theorem Ij.add {x : Nat} (h : Ij v n) (hx : ∀ i, i < n → v i ≠ x) : Ij (fun i => if i = n then x else v i) (n + 1) := by
  intro i j hi hj he
  by_cases h1 : i = n <;> by_cases h2 : j = n <;> simp only [h1, h2, if_true, if_false] at he
  · omega
  · exact absurd he.symm (hx j (by omega))
  · exact absurd he (hx i (by omega))
  · exact h i j (by omega) (by omega) he
theorem Mm.rem {y : Nat} (hn : 0 < n) (h : Ij v n) : Mm (fun i => if i = 0 then v (n - 1) else v i) (n - 1) y ↔ Mm v n y ∧ y ≠ v 0 := by
  constructor
  · rintro ⟨i, hi, rfl⟩
    by_cases h0 : i = 0
    · subst h0
      refine ⟨⟨n - 1, by omega, by simp⟩, fun he => ?_⟩
      have := h (n - 1) 0 (by omega) (by omega) (by simpa using he)
      omega
    · refine ⟨⟨i, by omega, by simp [h0]⟩, fun he => ?_⟩
      have := h i 0 (by omega) (by omega) (by simpa [h0] using he)
      omega
  · rintro ⟨⟨i, hi, rfl⟩, hne⟩
    by_cases h1 : i = n - 1
    · by_cases h2 : n = 1
      · exact absurd (by rw [h1, h2]) hne
      · exact ⟨0, by omega, by simp [h1]⟩
    · have h0 : i ≠ 0 := fun q => hne (by rw [q])
      exact ⟨i, by omega, by simp [h0]⟩
theorem Ij.rem (hn : 0 < n) (h : Ij v n) : Ij (fun i => if i = 0 then v (n - 1) else v i) (n - 1) := by
  intro i j hi hj he
  by_cases h1 : i = 0 <;> by_cases h2 : j = 0 <;> simp only [h1, h2, if_true, if_false] at he
  · omega
  · have := h _ _ (by omega) (by omega) he; omega
  · have := h _ _ (by omega) (by omega) he; omega
  · exact h i j (by omega) (by omega) he
end PQ
