/-! SYSTEM 5: stones and their rows; empty, end -/
set_option maxRecDepth 100000
/-- row w of the model as the array c -/
def RowR (K N : Nat → Nat) (I J : Nat → Int → Int) (T c : Nat) (w : Int) : Prop := (K c = 64 ∧ (N c : Int) = J 365 w) ∧ (∀ k, 0 ≤ k → k < J 365 w → I c k = J 366 (10 * w + k)) ∧ T + 6 < c ∧ 360 < c
def StnR (K N : Nat → Nat) (I : Nat → Int → Int) (R : Nat → Int → Option Nat) (J : Nat → Int → Int) (T s : Nat) (t : Int) : Prop := (K s = 4 ∧ T + 6 < s ∧ 360 < s) ∧ I s 1 = J 364 t ∧ ∃ A, R s 0 = some A ∧ (K A = 74 ∧ N A = 5 ∧ T + 6 < A ∧ 360 < A) ∧ ∀ r, 0 ≤ r → r < J 364 t → ∃ c, R A r = some c ∧ RowR K N I J T c (4 * t + r)
def Sto (K N : Nat → Nat) (I : Nat → Int → Int) (R : Nat → Int → Option Nat) (J : Nat → Int → Int) (T : Nat) : Prop := I T 1 = J 360 8 ∧ ∀ t, 0 ≤ t → t < J 360 8 → ∃ s, R (T + 2) t = some s ∧ StnR K N I R J T s t
section STO
variable {G : rr_G} {nx : Nat} {K N : Nat → Nat} {I I1 I2 J : Nat → Int → Int} {R : Nat → Int → Option Nat} {T s : Nat} {t r : Int}
theorem StnR.ints (h : StnR K N I R J T s t) (hI : ∀ x, T + 6 < x → 360 < x → I2 x = I x) : StnR K N I2 R J T s t := by
  obtain ⟨h1, h2, A, h3, h4, h5⟩ := h
  refine ⟨h1, by rw [hI s h1.2.1 h1.2.2]; exact h2, A, h3, h4, fun r r1 r2 => ?_⟩
  obtain ⟨c, c1, c2, c3, c4⟩ := h5 r r1 r2
  exact ⟨c, c1, c2, by rw [hI c c4.1 c4.2]; exact c3, c4⟩
theorem Sto.ints (h : Sto K N I R J T) (hT : I2 T 1 = I T 1) (hI : ∀ x, T + 6 < x → 360 < x → I2 x = I x) : Sto K N I2 R J T := by
  refine ⟨by rw [hT]; exact h.1, fun t t1 t2 => ?_⟩
  obtain ⟨s, s1, s2⟩ := h.2 t t1 t2
  exact ⟨s, s1, s2.ints hI⟩
theorem jc_empty1 (hS : StnR K N I R J T s t) (hr : 0 ≤ r ∧ r < J 364 t) (h4 : J 364 t ≤ 4) (hJ : J 360 4 ≤ 20) (hok : RowOK J (4 * t + r)) : gP G yX8_empty cX8_empty 4 ((some FieldType.int)) 0 0 0 [vR (some s), vI r, vI 1] (K, N, I, R) nx (gEq (vI (rgt J (4 * t + r))) (K, N, I, R) nx) := by
  obtain ⟨⟨hKs, -⟩, hrows, A, hA, ⟨hKA, hNA, -⟩, hrw⟩ := hS
  obtain ⟨c, hc, ⟨hKc, hNc⟩, hI, -⟩ := hrw r hr.1 hr.2
  have hin := rgt_in hok
  have hsk := rgt_sk J (4 * t + r)
  have hl := hok.1
  have hv := hok.2.1
  generalize rgt J (4 * t + r) = E at hin hsk ⊢
  refine gP.of (by decide) rfl (Nat.le_of_ble_eq_true rfl) ?_
  refine x_ls (ls2 := [some (vR (some s)), some (vI r), some (vI 1), none]) rfl ?_
  refine x_iconst dX8_empty_0 ?_
  refine x_istore_n dX8_empty_1 (by decide) ?_
  refine x_ls (ls2 := [some (vR (some s)), some (vI r), some (vI 1), some (vI 0)]) rfl ?_
  refine s_for0 (W := fun q : Int => gp G yX8_empty cX8_empty 4 ((some FieldType.int)) 0 0 0 (gEq (vI E) (K, N, I, R) nx) 2 [some (vR (some s)), some (vI r), some (vI 1), some (vI q)] [] (K, N, I, R) nx 0 0) 0 E (by omega) ?_
  intro q h0 hq ih
  have e := hI (J 365 (4 * t + r) - 1 - q) (by omega) (by omega)
  have hv2 := hv (J 365 (4 * t + r) - 1 - q) (by omega) (by omega)
  have hd : q < E → I c ((N c : Int) - 1 - q) = -1 := fun hlt => by
    have h1 := (hsk.2.2 q h0 hlt).2
    rw [hNc, e]
    rwa [show 10 * (4 * t + r) + (J 365 (4 * t + r) - 1 - q) = 10 * (4 * t + r) + J 365 (4 * t + r) - 1 - q by omega]
  have hd2 : q = E → I c ((N c : Int) - 1 - q) ≠ -1 := fun hlt => by
    rw [hNc, e, hlt]
    rw [show 10 * (4 * t + r) + (J 365 (4 * t + r) - 1 - E) = 10 * (4 * t + r) + J 365 (4 * t + r) - 1 - E by omega]
    exact hin.2
  have hrg : -1 ≤ I c ((N c : Int) - 1 - q) ∧ I c ((N c : Int) - 1 - q) < 20 := by rw [hNc, e]; omega
  refine x_aload_n dX8_empty_2 rfl ?_
  refine g_getR 0 (r := some A) (ci := 4) (kf := 0) rfl (by decide) (by decide) rfl rfl q1680 rfl (by first | assumption | grind) (hA) dX8_empty_3 ?_
  refine x_iload_n dX8_empty_6 rfl ?_
  refine g_aald (t := 10) (r := some (c)) rfl rfl rfl (by first | assumption | grind) rfl (by omega) (hc) dX8_empty_7 ?_
  refine x_iload_n dX8_empty_8 rfl ?_
  refine x_if_eq (t := 26) dX8_empty_9 (by decide) (by omega) (fun c_9 => absurd c_9 (by omega)) (fun c_9 => ?_)
  refine x_aload_n dX8_empty_12 rfl ?_
  refine g_getR 0 (r := some A) (ci := 4) (kf := 0) rfl (by decide) (by decide) rfl rfl q1680 rfl (by first | assumption | grind) (hA) dX8_empty_13 ?_
  refine x_iload_n dX8_empty_16 rfl ?_
  refine g_aald (t := 10) (r := some (c)) rfl rfl rfl (by first | assumption | grind) rfl (by omega) (hc) dX8_empty_17 ?_
  refine g_alen (t := 0) rfl (by first | assumption | grind) (rfl) dX8_empty_18 ?_
  refine x_iconst dX8_empty_19 ?_
  refine x_isub dX8_empty_20 ?_
  refine x_iload_n dX8_empty_21 rfl ?_
  refine x_isub dX8_empty_22 ?_
  refine x_goto (t := 27) dX8_empty_23 (by decide) ?_
  refine g_iald (by first | assumption | grind) rfl (by omega) dX8_empty_27 ?_
  refine x_iconst dX8_empty_28 ?_
  refine x_icmp_ne (t := 38) dX8_empty_29 (by decide) (by omega) (fun c_29 => ?_) (fun c_29 => ?_)
  · skip
    refine x_iload_n dX8_empty_38 rfl ?_
    refine gp_iret rfl dX8_empty_39 (by omega) (by omega) ?_
    have he : q = E := by omega
    exact ⟨by rw [he], rfl, rfl⟩
  · skip
    refine x_iinc dX8_empty_32 rfl (by decide) ?_
    refine x_goto (t := 2) dX8_empty_35 (by decide) ?_
    have hlt : q < E := by omega
    exact ih hlt
theorem jc_empty0 (hS : StnR K N I R J T s t) (hr : 0 ≤ r ∧ r < J 364 t) (h4 : J 364 t ≤ 4) (hJ : J 360 4 ≤ 20) (hok : RowOK J (4 * t + r)) : gP G yX8_empty cX8_empty 4 ((some FieldType.int)) 0 0 0 [vR (some s), vI r, vI 0] (K, N, I, R) nx (gEq (vI (lft J (4 * t + r))) (K, N, I, R) nx) := by
  obtain ⟨⟨hKs, -⟩, hrows, A, hA, ⟨hKA, hNA, -⟩, hrw⟩ := hS
  obtain ⟨c, hc, ⟨hKc, hNc⟩, hI, -⟩ := hrw r hr.1 hr.2
  have hin := lft_in hok
  have hsk := lft_sk J (4 * t + r)
  have hl := hok.1
  have hv := hok.2.1
  generalize lft J (4 * t + r) = E at hin hsk ⊢
  refine gP.of (by decide) rfl (Nat.le_of_ble_eq_true rfl) ?_
  refine x_ls (ls2 := [some (vR (some s)), some (vI r), some (vI 0), none]) rfl ?_
  refine x_iconst dX8_empty_0 ?_
  refine x_istore_n dX8_empty_1 (by decide) ?_
  refine x_ls (ls2 := [some (vR (some s)), some (vI r), some (vI 0), some (vI 0)]) rfl ?_
  refine s_for0 (W := fun q : Int => gp G yX8_empty cX8_empty 4 ((some FieldType.int)) 0 0 0 (gEq (vI E) (K, N, I, R) nx) 2 [some (vR (some s)), some (vI r), some (vI 0), some (vI q)] [] (K, N, I, R) nx 0 0) 0 E (by omega) ?_
  intro q h0 hq ih
  have e := hI q (by omega) (by omega)
  have hv2 := hv q (by omega) (by omega)
  have hd : q < E → I c q = -1 := fun hlt => by
    have h1 := (hsk.2.2 q h0 hlt).2
    rw [e]; exact h1
  have hd2 : q = E → I c q ≠ -1 := fun hlt => by
    rw [e, hlt]; exact hin.2
  have hrg : -1 ≤ I c q ∧ I c q < 20 := by rw [e]; omega
  refine x_aload_n dX8_empty_2 rfl ?_
  refine g_getR 0 (r := some A) (ci := 4) (kf := 0) rfl (by decide) (by decide) rfl rfl q1680 rfl (by first | assumption | grind) (hA) dX8_empty_3 ?_
  refine x_iload_n dX8_empty_6 rfl ?_
  refine g_aald (t := 10) (r := some (c)) rfl rfl rfl (by first | assumption | grind) rfl (by omega) (hc) dX8_empty_7 ?_
  refine x_iload_n dX8_empty_8 rfl ?_
  refine x_if_eq (t := 26) dX8_empty_9 (by decide) (by omega) (fun c_9 => ?_) (fun c_9 => absurd (by omega) c_9)
  refine x_iload_n dX8_empty_26 rfl ?_
  refine g_iald (by first | assumption | grind) rfl (by omega) dX8_empty_27 ?_
  refine x_iconst dX8_empty_28 ?_
  refine x_icmp_ne (t := 38) dX8_empty_29 (by decide) (by omega) (fun c_29 => ?_) (fun c_29 => ?_)
  · skip
    refine x_iload_n dX8_empty_38 rfl ?_
    refine gp_iret rfl dX8_empty_39 (by omega) (by omega) ?_
    have he : q = E := by omega
    exact ⟨by rw [he], rfl, rfl⟩
  · skip
    refine x_iinc dX8_empty_32 rfl (by decide) ?_
    refine x_goto (t := 2) dX8_empty_35 (by decide) ?_
    have hlt : q < E := by omega
    exact ih hlt
theorem jc_end1 (hS : StnR K N I R J T s t) (hr : 0 ≤ r ∧ r < J 364 t) (h4 : J 364 t ≤ 4) (hJ : J 360 4 ≤ 20) (hok : RowOK J (4 * t + r)) : gP G yX8_end cX8_end 3 ((some FieldType.int)) 1 0 0 [vR (some s), vI r, vI 1] (K, N, I, R) nx (gEq (vI (J 366 (10 * (4 * t + r) + endK J (4 * t + r) 0))) (K, N, I, R) nx) := by
  have hS' := hS
  obtain ⟨⟨hKs, -⟩, hrows, A, hA, ⟨hKA, hNA, -⟩, hrw⟩ := hS
  obtain ⟨c, hc, ⟨hKc, hNc⟩, hI, -⟩ := hrw r hr.1 hr.2
  have hin := rgt_in hok
  have hl := hok.1
  have e := hI (J 365 (4 * t + r) - 1 - rgt J (4 * t + r)) (by omega) (by omega)
  refine gP.of (by decide) rfl (Nat.le_of_ble_eq_true rfl) ?_
  refine x_ls (ls2 := [some (vR (some s)), some (vI r), some (vI 1)]) rfl ?_
  refine x_aload_n dX8_end_0 rfl ?_
  refine g_getR 0 (r := some A) (ci := 4) (kf := 0) rfl (by decide) (by decide) rfl rfl q1680 rfl (by first | assumption | grind) (hA) dX8_end_1 ?_
  refine x_iload_n dX8_end_4 rfl ?_
  refine g_aald (t := 10) (r := some (c)) rfl rfl rfl (by first | assumption | grind) rfl (by omega) (hc) dX8_end_5 ?_
  refine x_iload_n dX8_end_6 rfl ?_
  refine x_if_eq (t := 29) dX8_end_7 (by decide) (by omega) (fun c_7 => absurd c_7 (by omega)) (fun c_7 => ?_)
  refine x_aload_n dX8_end_10 rfl ?_
  refine g_getR 0 (r := some A) (ci := 4) (kf := 0) rfl (by decide) (by decide) rfl rfl q1680 rfl (by first | assumption | grind) (hA) dX8_end_11 ?_
  refine x_iload_n dX8_end_14 rfl ?_
  refine g_aald (t := 10) (r := some (c)) rfl rfl rfl (by first | assumption | grind) rfl (by omega) (hc) dX8_end_15 ?_
  refine g_alen (t := 0) rfl (by first | assumption | grind) (rfl) dX8_end_16 ?_
  refine x_iconst dX8_end_17 ?_
  refine x_isub dX8_end_18 ?_
  refine x_aload_n dX8_end_19 rfl ?_
  refine x_iload_n dX8_end_20 rfl ?_
  refine x_iconst dX8_end_21 ?_
  refine g_cv2 (ci := 4) (jc_empty1 hS' hr h4 hJ hok) fX8_empty q341 rfl (by decide) (by first | assumption | grind) (by decide) (Nat.le_of_ble_eq_true rfl) (by omega) (by omega) dX8_end_22 (fun v h2 n2 hp => ?_)
  obtain ⟨rfl, rfl, rfl⟩ := hp
  refine x_isub dX8_end_25 ?_
  refine x_goto (t := 35) dX8_end_26 (by decide) ?_
  refine g_iald (by first | assumption | grind) rfl (by omega) dX8_end_35 ?_
  refine gp_iret rfl dX8_end_36 (by omega) (by omega) ?_
  exact ⟨by unfold endK; rw [hNc, e, if_pos rfl], rfl, rfl⟩
theorem jc_end0 (hS : StnR K N I R J T s t) (hr : 0 ≤ r ∧ r < J 364 t) (h4 : J 364 t ≤ 4) (hJ : J 360 4 ≤ 20) (hok : RowOK J (4 * t + r)) : gP G yX8_end cX8_end 3 ((some FieldType.int)) 1 0 0 [vR (some s), vI r, vI 0] (K, N, I, R) nx (gEq (vI (J 366 (10 * (4 * t + r) + endK J (4 * t + r) 1))) (K, N, I, R) nx) := by
  have hS' := hS
  obtain ⟨⟨hKs, -⟩, hrows, A, hA, ⟨hKA, hNA, -⟩, hrw⟩ := hS
  obtain ⟨c, hc, ⟨hKc, hNc⟩, hI, -⟩ := hrw r hr.1 hr.2
  have hin := lft_in hok
  have hl := hok.1
  have e := hI (lft J (4 * t + r)) (by omega) (by omega)
  refine gP.of (by decide) rfl (Nat.le_of_ble_eq_true rfl) ?_
  refine x_ls (ls2 := [some (vR (some s)), some (vI r), some (vI 0)]) rfl ?_
  refine x_aload_n dX8_end_0 rfl ?_
  refine g_getR 0 (r := some A) (ci := 4) (kf := 0) rfl (by decide) (by decide) rfl rfl q1680 rfl (by first | assumption | grind) (hA) dX8_end_1 ?_
  refine x_iload_n dX8_end_4 rfl ?_
  refine g_aald (t := 10) (r := some (c)) rfl rfl rfl (by first | assumption | grind) rfl (by omega) (hc) dX8_end_5 ?_
  refine x_iload_n dX8_end_6 rfl ?_
  refine x_if_eq (t := 29) dX8_end_7 (by decide) (by omega) (fun c_7 => ?_) (fun c_7 => absurd (by omega) c_7)
  refine x_aload_n dX8_end_29 rfl ?_
  refine x_iload_n dX8_end_30 rfl ?_
  refine x_iconst dX8_end_31 ?_
  refine g_cv2 (ci := 4) (jc_empty0 hS' hr h4 hJ hok) fX8_empty q341 rfl (by decide) (by first | assumption | grind) (by decide) (Nat.le_of_ble_eq_true rfl) (by omega) (by omega) dX8_end_32 (fun v h2 n2 hp => ?_)
  obtain ⟨rfl, rfl, rfl⟩ := hp
  refine g_iald (by first | assumption | grind) rfl (by omega) dX8_end_35 ?_
  refine gp_iret rfl dX8_end_36 (by omega) (by omega) ?_
  exact ⟨by unfold endK; rw [e, if_neg (by decide)], rfl, rfl⟩
end STO
