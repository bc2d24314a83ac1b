/-! QUEUES 5: copyOf of references, grow -/
set_option maxRecDepth 100000
section PQ
variable {G : rr_G} {nx : Nat} {K N : Nat → Nat} {I : Nat → Int → Int} {R : Nat → Int → Option Nat} {A o P : Nat} {v : Nat → Nat} {n k : Nat}
/-- what an array of objects may hold -/
def El (K : Nat → Nat) (x : Nat) : Prop := K x = 9 ∨ K x = 6
theorem El.of {x : Nat} (h : El K x) : ∃ (ci : Nat) (q : vw_C), rr_cl[ci]? = some q ∧ ci ≠ 0 ∧ K x = ci ∧ (q.1 = "java/lang/Object" ∨ Cond.castable q.1 "java/lang/Object" ∈ lw_tbl) := by
  rcases h with h | h
  · exact ⟨9, _, rfl, by decide, h, Or.inr q2731⟩
  · exact ⟨6, _, rfl, by decide, h, Or.inr q2733⟩
/-- a copy of an array of objects, longer -/
def NewR (K N : Nat → Nat) (I : Nat → Int → Int) (R : Nat → Int → Option Nat) (nx n : Nat) (A : Nat) : rr_V → rr_H → Nat → Prop := fun v h2 n2 => v = vR (some nx) ∧ n2 = nx + 1 ∧ ∃ f : Int → Option Nat, h2 = (rr_u1 K nx 67, rr_u1 N nx n, rr_u1 I nx (fun _ => 0), rr_u1 R nx f) ∧ (∀ j, 0 ≤ j → j < (N A : Int) → f j = R A j) ∧ ∀ j, (N A : Int) ≤ j → f j = none
theorem jc_copyOf3 (hA : K A = 67) (hn : N A ≤ n) (hb : n < 1000) (hel : ∀ (j : Int) x, 0 ≤ j → j < (N A : Int) → R A j = some x → El K x) : gP G yJ10_copyOf_3 cJ10_copyOf_3 4 ((some (FieldType.array (FieldType.object "java/lang/Object")))) 1 1 n [vR (some A), vI (n : Int), vR (some 7)] (K, N, I, R) nx (NewR K N I R nx n A) := by
  refine gP.of (by decide) rfl (Nat.le_of_ble_eq_true rfl) ?_
  refine x_ls (ls2 := [some (vR (some A)), some (vI (n : Int)), some (vR (some 7)), none]) rfl ?_
  refine x_live (fun hlv h3 => ?_)
  have hbx : A ≠ nx := by
    have := hlv A (by show K A ≠ 0; omega)
    omega
  have eK : rr_u1 K nx (64 + 3) A = 67 := by simp [rr_u1, hbx, hA]
  have eKx : rr_u1 K nx (64 + 3) nx = 67 := by simp [rr_u1]
  have eN : rr_u1 N nx n A = N A := by simp [rr_u1, hbx]
  have eNx : rr_u1 N nx n nx = n := by simp [rr_u1]
  have hel2 : ∀ (j : Int) w, 0 ≤ j → j < (N A : Int) → rr_u1 R nx (fun _ => none) A j = some w → ∃ (ci : Nat) (q : vw_C), rr_cl[ci]? = some q ∧ ci ≠ 0 ∧ rr_u1 K nx (64 + 3) w = ci ∧ (q.1 = "java/lang/Object" ∨ Cond.castable q.1 "java/lang/Object" ∈ lw_tbl) := by
    intro j w h1 h2 h3
    have h4 : R A j = some w := by simpa [rr_u1, hbx] using h3
    have h5 := hel j w h1 (by omega) h4
    have h6 : w ≠ nx := by
      have := hlv w (by show K w ≠ 0; rcases h5 with h | h <;> omega)
      omega
    refine El.of ?_
    simpa [El, rr_u1, h6] using h5
  refine x_aload_n dJ10_copyOf_3_0 rfl ?_
  refine x_ldcM q1638 dJ10_copyOf_3_1 ?_
  refine x_acmp_neS (t := 13) dJ10_copyOf_3_3 (by decide) ?_
  refine x_iload_n dJ10_copyOf_3_6 rfl ?_
  refine g_anew 3 (n) rfl q1639 q1539 (rfl) (by omega) (by omega) (by omega) dJ10_copyOf_3_7 ?_
  refine x_goto (t := 24) dJ10_copyOf_3_10 (by decide) ?_
  refine x_astore_n dJ10_copyOf_3_24 (by decide) ?_
  refine x_aload_n dJ10_copyOf_3_25 rfl ?_
  refine x_iconst dJ10_copyOf_3_26 ?_
  refine x_aload_n dJ10_copyOf_3_27 rfl ?_
  refine x_iconst dJ10_copyOf_3_28 ?_
  refine x_aload_n dJ10_copyOf_3_29 rfl ?_
  refine g_alen (t := 3) rfl (eK) (eN) dJ10_copyOf_3_30 ?_
  refine x_iload_n dJ10_copyOf_3_31 rfl ?_
  refine x_mmin (by omega) q429 (by decide) (Nat.le_of_ble_eq_true rfl) dJ10_copyOf_3_32 ?_ (by omega) (by omega)
  refine g_cpyR 3 rfl q430 q432 q431 q156 (eK) (eKx) (by first | assumption | omega) (by omega) (by omega) (fun j w h1 h2 h3 => hel2 j w h1 (by omega) h3) (by decide) (Nat.le_of_ble_eq_true rfl) dJ10_copyOf_3_35 ?_
  refine x_aload_n dJ10_copyOf_3_38 rfl ?_
  refine gp_aret rfl (Or.inr ⟨_, rfl⟩) dJ10_copyOf_3_39 (by omega) (by omega) ?_
  refine ⟨rfl, rfl, fun j => if 0 ≤ j ∧ j < (N A : Int) then R A j else none, ?_, fun j h1 h2 => if_pos ⟨h1, h2⟩, fun j h1 => if_neg (by omega)⟩
  refine tR ?_
  funext w j
  unfold rr_cpy rr_u1
  by_cases hw : w = nx
  · subst hw
    by_cases hj : 0 ≤ j ∧ j < (N A : Int)
    · rw [if_pos ⟨rfl, by omega, by omega⟩, if_neg hbx, if_pos rfl, if_pos hj]
      congr 1; omega
    · rw [if_neg (by omega), if_pos rfl, if_pos rfl, if_neg hj]
  · simp [hw]
theorem jc_copyOf2 (hA : K A = 67) (hn : N A ≤ n) (hb : n < 1000) (hel : ∀ (j : Int) x, 0 ≤ j → j < (N A : Int) → R A j = some x → El K x) : gP G yJ10_copyOf_2 cJ10_copyOf_2 2 ((some (FieldType.array (FieldType.object "java/lang/Object")))) 2 1 n [vR (some A), vI (n : Int)] (K, N, I, R) nx (NewR K N I R nx n A) := by
  refine gP.of (by decide) rfl (Nat.le_of_ble_eq_true rfl) ?_
  refine x_ls (ls2 := [some (vR (some A)), some (vI (n : Int))]) rfl ?_
  refine x_aload_n dJ10_copyOf_2_0 rfl ?_
  refine x_iload_n dJ10_copyOf_2_1 rfl ?_
  refine x_aload_n dJ10_copyOf_2_2 rfl ?_
  refine x_getC q1605 (by first | assumption | grind) (by decide) (Nat.le_of_ble_eq_true rfl) dJ10_copyOf_2_3 ?_
  refine g_cs3 (jc_copyOf3 hA hn hb hel) fJ10_copyOf_3 q1635 (by decide) (Nat.le_of_ble_eq_true rfl) (by omega) (by omega) dJ10_copyOf_2_6 (fun v h2 n2 hp => ?_)
  obtain ⟨rfl, rfl, hp⟩ := hp
  refine gp_aret rfl (Or.inr ⟨_, rfl⟩) dJ10_copyOf_2_9 (by omega) (by omega) ?_
  exact ⟨rfl, rfl, hp⟩
theorem jc_newLength {a b c : Int} {h : rr_H} (h0 : 0 ≤ a ∧ a < 1000) (h1 : 0 ≤ b ∧ b < 1000) (h2 : 0 < c ∧ c < 1000) : gP G yJ9_newLength cJ9_newLength 4 ((some FieldType.int)) 1 0 0 [vI a, vI b, vI c] h nx (gEq (vI (a + max b c)) h nx) := by
  refine gP.of (by decide) rfl (Nat.le_of_ble_eq_true rfl) ?_
  refine x_ls (ls2 := [some (vI a), some (vI b), some (vI c), none]) rfl ?_
  refine x_iload_n dJ9_newLength_0 rfl ?_
  refine x_iload_n dJ9_newLength_1 rfl ?_
  refine x_iload_n dJ9_newLength_2 rfl ?_
  refine x_mmax (by omega) q413 (by decide) (Nat.le_of_ble_eq_true rfl) dJ9_newLength_3 ?_ (by omega) (by omega)
  refine x_iadd dJ9_newLength_6 ?_
  refine x_istore_n dJ9_newLength_7 (by decide) ?_
  refine x_iconst dJ9_newLength_8 ?_
  refine x_iload_n dJ9_newLength_9 rfl ?_
  refine x_icmp_ge (t := 21) dJ9_newLength_10 (by decide) (by omega) (fun c_10 => absurd c_10 (by omega)) (fun c_10 => ?_)
  refine x_iload_n dJ9_newLength_13 rfl ?_
  refine x_ldc (z := 2147483639) q414 dJ9_newLength_14 (by decide) ?_
  refine x_icmp_gt (t := 21) dJ9_newLength_16 (by decide) (by omega) (fun c_16 => absurd c_16 (by omega)) (fun c_16 => ?_)
  refine x_iload_n dJ9_newLength_19 rfl ?_
  refine gp_iret rfl dJ9_newLength_20 (by omega) (by omega) ?_
  exact ⟨rfl, rfl, rfl⟩
end PQ
