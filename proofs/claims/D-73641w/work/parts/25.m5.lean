set_option maxRecDepth 100000
/-! THE MODEL's methods, 5: contracts that say what holds behind; signs -/
def mE (y : MethodName) (cc : ByteArray) (nL : Nat) (ret : Option FieldType) (d : Nat) (as : List rr_V) (I : Nat → Int → Int) (F : (Nat → Int → Int) → Prop) : Prop :=
  ∀ (G : rr_G) (nx : Nat), rr_Cn G y cc nL ret d 0 0 as (mh I) nx (fun r2 h2 n2 => r2 = none ∧ n2 = nx ∧ ∃ I', h2 = mh I' ∧ F I')
abbrev me (G : rr_G) (y : MethodName) (cc : ByteArray) (nL : Nat) (ret : Option FieldType) (d nx : Nat) (F : (Nat → Int → Int) → Prop) (pc : Nat) (ls : List (Option rr_V)) (st : List rr_V) (I : Nat → Int → Int) : Prop :=
  rr_R G y cc nL ret d 0 0 (rr_N G 0 0 (fun r2 h2 n2 => r2 = none ∧ n2 = nx ∧ ∃ I', h2 = mh I' ∧ F I')) pc ls st (mh I) nx 0 0
theorem mE.of {y : MethodName} {cc : ByteArray} {nL : Nat} {ret : Option FieldType} {d : Nat} {as : List rr_V} {I : Nat → Int → Int} {F : (Nat → Int → Int) → Prop} (hy : plainName y.cls = true) (ha : (as.map some).all rr_nj = true) (hn : as.length ≤ nL)
    (k : ∀ (G : rr_G) (nx : Nat), me G y cc nL ret d nx F 0 (as.map some ++ List.replicate (nL - as.length) none) [] I) : mE y cc nL ret d as I F := fun G nx => rr_entry hy ha hn (k G nx)
section MODELE
variable {G : rr_G} {y : MethodName} {cc : ByteArray} {nL : Nat} {ret : Option FieldType} {d mc ms : Nat} {Q : List Frame → Array Value → State → State → Prop} {pc : Nat} {ls : List (Option rr_V)} {st rest : List rr_V} {I : Nat → Int → Int} {nx cu su : Nat} {F : (Nat → Int → Int) → Prop}
theorem m_ew0 {idx nL' d' : Nat} {y' : MethodName} {cc' : ByteArray} {ret' : Option FieldType} (hM : mE y' cc' nL' ret' d' [vR (some 360)] I F) (hf : rr_mv RX4 y' cc' nL' ret' 0) (hq : Cond.methodLink y.cls idx y' ∈ lw_all) (hd : d' + 1 ≤ d ∧ nL' ≤ 45) (hw : rr_wd rest ≤ 8) (dg : decode cc pc = .ok (.invokevirtual idx, 3))
    (k : ∀ I', F I' → rr_R G y cc nL ret d mc ms Q (pc + 3) ls rest (mh I') nx cu su) (hmc : cu ≤ mc := by exact Nat.le_refl _) (hms : su ≤ ms := by exact Nat.le_refl _) : rr_R G y cc nL ret d mc ms Q pc ls (vR (some 360) :: rest) (mh I) nx cu su :=
  x_callv (As := []) (rest := rest) (C := RX4) (T := TX4) (N := 46) (ci := 2) rfl (hM G nx) hf hq rfl (by decide) rfl rfl hd.1 hd.2 hw hmc hms dg (fun r h' nx' q => by obtain ⟨rfl, rfl, I', rfl, hF⟩ := q; exact k I' hF)
theorem m_ew1 {a1 : rr_V} {idx nL' d' : Nat} {y' : MethodName} {cc' : ByteArray} {ret' : Option FieldType} (hM : mE y' cc' nL' ret' d' [vR (some 360), a1] I F) (hf : rr_mv RX4 y' cc' nL' ret' 1) (hq : Cond.methodLink y.cls idx y' ∈ lw_all) (hd : d' + 1 ≤ d ∧ nL' ≤ 45) (hw : rr_wd rest ≤ 8) (dg : decode cc pc = .ok (.invokevirtual idx, 3))
    (k : ∀ I', F I' → rr_R G y cc nL ret d mc ms Q (pc + 3) ls rest (mh I') nx cu su) (hmc : cu ≤ mc := by exact Nat.le_refl _) (hms : su ≤ ms := by exact Nat.le_refl _) : rr_R G y cc nL ret d mc ms Q pc ls (a1 :: vR (some 360) :: rest) (mh I) nx cu su :=
  x_callv (As := [a1]) (rest := rest) (C := RX4) (T := TX4) (N := 46) (ci := 2) rfl (hM G nx) hf hq rfl (by decide) rfl rfl hd.1 hd.2 hw hmc hms dg (fun r h' nx' q => by obtain ⟨rfl, rfl, I', rfl, hF⟩ := q; exact k I' hF)
theorem m_ew2 {a1 a2 : rr_V} {idx nL' d' : Nat} {y' : MethodName} {cc' : ByteArray} {ret' : Option FieldType} (hM : mE y' cc' nL' ret' d' [vR (some 360), a1, a2] I F) (hf : rr_mv RX4 y' cc' nL' ret' 2) (hq : Cond.methodLink y.cls idx y' ∈ lw_all) (hd : d' + 1 ≤ d ∧ nL' ≤ 45) (hw : rr_wd rest ≤ 8) (dg : decode cc pc = .ok (.invokevirtual idx, 3))
    (k : ∀ I', F I' → rr_R G y cc nL ret d mc ms Q (pc + 3) ls rest (mh I') nx cu su) (hmc : cu ≤ mc := by exact Nat.le_refl _) (hms : su ≤ ms := by exact Nat.le_refl _) : rr_R G y cc nL ret d mc ms Q pc ls (a2 :: a1 :: vR (some 360) :: rest) (mh I) nx cu su :=
  x_callv (As := [a1, a2]) (rest := rest) (C := RX4) (T := TX4) (N := 46) (ci := 2) rfl (hM G nx) hf hq rfl (by decide) rfl rfl hd.1 hd.2 hw hmc hms dg (fun r h' nx' q => by obtain ⟨rfl, rfl, I', rfl, hF⟩ := q; exact k I' hF)
end MODELE
/-- all but these arrays, these numbers is as it was -/
def eqx (I I' : Nat → Int → Int) (xs : List Nat) (fs : List Int) : Prop := (∀ x, x ≠ 360 → x ∉ xs → I' x = I x) ∧ ∀ j, j ∉ fs → I' 360 j = I 360 j
theorem eqx.rf (I : Nat → Int → Int) (xs : List Nat) (fs : List Int) : eqx I I xs fs := ⟨fun _ _ _ => rfl, fun _ _ => rfl⟩
/-- an array is set -/
def stA (I : Nat → Int → Int) (a : Nat) (s : Int → Int) : Nat → Int → Int := fun x => if x = a then s else I x
def upA (s : Int → Int) (i v : Int) : Int → Int := fun j => if j = i then v else s j
theorem stA_set (I : Nat → Int → Int) (a : Nat) (s : Int → Int) (i v : Int) : rr_u2 (stA I a s) a i v = stA I a (upA s i v) := by
  apply rr_u2_eq; intro x j; simp only [stA, upA, rr_u2]
  by_cases h : x = a
  · simp [h, upA]
  · simp [h]
theorem stA_same (I : Nat → Int → Int) (a : Nat) (s : Int → Int) : stA I a s a = s := by simp [stA]
theorem stA_ne (I : Nat → Int → Int) {a x : Nat} (s : Int → Int) (h : x ≠ a) : stA I a s x = I x := by simp [stA, h]
theorem stA_self (I : Nat → Int → Int) (a : Nat) : stA I a (I a) = I := by
  funext x; simp only [stA]; split
  · rename_i h; rw [h]
  · rfl
theorem stA_2 (I : Nat → Int → Int) (a : Nat) (s t : Int → Int) : stA (stA I a s) a t = stA I a t := by
  funext x; simp only [stA]; split <;> rfl
theorem upA_s (s : Int → Int) (i v : Int) : upA s i v i = v := by simp [upA]
theorem upA_n (s : Int → Int) {i j : Int} (v : Int) (h : j ≠ i) : upA s i v j = s j := by simp [upA, h]
theorem rr_and1 (z : Int) : rr_and z 1 = 0 ∨ rr_and z 1 = 1 := by
  unfold rr_and
  have h := pk_and (Int32.ofInt z) (m := Int32.ofInt 1) 1 (by decide)
  have h2 := Nat.mod_lt (Int32.ofInt z).toBitVec.toNat (show 0 < 2 ^ 1 by decide)
  rw [h, nI_toInt (by omega)]
  omega
theorem rr_xor01 {a b : Int} (ha : a = 0 ∨ a = 1) (hb : b = 0 ∨ b = 1) : rr_xor a b = 0 ∨ rr_xor a b = 1 := by
  rcases ha with rfl | rfl <;> rcases hb with rfl | rfl <;> decide
theorem itr_inv {α : Type} (g : Int → α → α) (lo hi : Int) (a : α) (P : Int → α → Prop) (h0 : P lo a) (hs : ∀ i v, lo ≤ i → i < hi → P i v → P (i + 1) (g i v)) : P (max lo hi) (itr g lo hi a) := by
  refine rr_for (g := g) (hi := hi) (fin := itr g lo hi a) (P := fun i v => (lo ≤ i ∧ i ≤ max lo hi) ∧ P i v) (W := fun _ _ => P (max lo hi) (itr g lo hi a)) ?_ ?_ lo a rfl ⟨by omega, h0⟩
  · intro i h1 h2
    have : i = max lo hi := by omega
    rw [← this]; exact h2.2
  · intro i v h1 h2 ih
    exact ih ⟨by omega, hs i v h2.1.1 h1 h2.2⟩
theorem itr_in (g : Int → Int → Int) (lo hi a b c : Int) (hlh : lo ≤ hi) (ha : b ≤ a ∧ a ≤ c) (hg : ∀ i v, lo ≤ i → i < hi → v ≤ g i v ∧ g i v ≤ v + 1) : b ≤ itr g lo hi a ∧ itr g lo hi a ≤ c + (hi - lo) := by
  refine rr_for (g := g) (hi := hi) (fin := _) (P := fun i v => lo ≤ i ∧ i ≤ hi ∧ b ≤ v ∧ v ≤ c + (i - lo)) (W := fun _ _ => b ≤ itr g lo hi a ∧ itr g lo hi a ≤ c + (hi - lo)) ?_ ?_ lo a rfl (by omega)
  · intro i h1 h2; omega
  · intro i v h1 h2 ih
    have := hg i v h2.1 h1
    exact ih (by omega)
theorem m_unlikeBy_in (I : Nat → Int → Int) (f g r e : Int) : 0 ≤ m_unlikeBy I f g r e ∧ m_unlikeBy I f g r e ≤ 25 := by
  have key : ∀ y n, n ≤ itr (fun x n => n + rr_xor (m_dotOf I f x y) (m_dotOf I g (x + r) (y + e))) 0 5 n ∧ itr (fun x n => n + rr_xor (m_dotOf I f x y) (m_dotOf I g (x + r) (y + e))) 0 5 n ≤ n + 5 := by
    intro y n
    have := itr_in (fun x n => n + rr_xor (m_dotOf I f x y) (m_dotOf I g (x + r) (y + e))) 0 5 n n n (by omega) (by omega) (fun i v _ _ => by
      have := rr_xor01 (rr_and1 (rr_shr (I 362 (5 * f + (y + 5) % 5)) ((i + 5) % 5))) (rr_and1 (rr_shr (I 362 (5 * g + (y + e + 5) % 5)) ((i + r + 5) % 5)))
      simp only [m_dotOf]
      omega)
    omega
  unfold m_unlikeBy
  have h := itr_inv (fun y n => itr (fun x n => n + rr_xor (m_dotOf I f x y) (m_dotOf I g (x + r) (y + e))) 0 5 n) 0 5 0 (fun i v => 0 ≤ v ∧ v ≤ 5 * i) (by omega) (fun i v h1 h2 h3 => by
    have := key i v
    omega)
  omega
def m_unlikeOf (I : Nat → Int → Int) (f g : Int) : Int := itr (fun r l => itr (fun e l => min l (m_unlikeBy I f g r e)) (-1) 2 l) (-1) 2 25
theorem c_unlikeOf {I : Nat → Int → Int} {f g : Int} (hf : 0 ≤ f ∧ f < 20) (hg : 0 ≤ g ∧ g < 20) : mC yX4_unlikeOf cX4_unlikeOf 6 (some FieldType.int) 2 [vR (some 360), vI f, vI g] I (some (vI (m_unlikeOf I f g))) I := by
  refine mC.of (by decide) rfl (Nat.le_of_ble_eq_true rfl) (fun G nx => ?_)
  refine x_ls (ls2 := [some (vR (some 360)), some (vI f), some (vI g), none, none, none]) rfl ?_
  refine x_bipush dX4_unlikeOf_0 (by decide) ?_
  refine x_istore_n dX4_unlikeOf_2 (by decide) ?_
  refine x_iconst dX4_unlikeOf_3 ?_
  refine x_istore dX4_unlikeOf_4 (by decide) ?_
  refine rr_for (g := fun r l => itr (fun e l => min l (m_unlikeBy I f g r e)) (-1) 2 l) (hi := 2) (P := fun i a => -1 ≤ i ∧ i ≤ 2 ∧ 0 ≤ a ∧ a ≤ 25) (W := fun i a => mm G yX4_unlikeOf cX4_unlikeOf 6 (some FieldType.int) 2 nx _ _ 6 [some (vR (some 360)), some (vI f), some (vI g), some (vI a), some (vI i), none] [] I) ?_ ?_ (-1) 25 rfl (by omega)
  · intro i hi hp
    refine x_iload dX4_unlikeOf_6 rfl ?_
    refine x_iconst dX4_unlikeOf_8 ?_
    refine x_icmp_gt (t := 48) dX4_unlikeOf_9 (by decide) (by omega) (fun c_9 => ?_) (fun c_9 => absurd (by omega) c_9)
    refine x_iload_n dX4_unlikeOf_48 rfl ?_
    refine x_iret rfl dX4_unlikeOf_49 (Nat.le_refl _) (Nat.le_refl _) ?_
    exact ⟨rfl, rfl, rfl⟩
  · intro r l hr hp ih
    have hin : 0 ≤ itr (fun e l => min l (m_unlikeBy I f g r e)) (-1) 2 l ∧ itr (fun e l => min l (m_unlikeBy I f g r e)) (-1) 2 l ≤ 25 := by
      refine itr_inv (fun e l => min l (m_unlikeBy I f g r e)) (-1) 2 l (fun _ v => 0 ≤ v ∧ v ≤ 25) (by omega) (fun i v h1 h2 h3 => ?_)
      have := m_unlikeBy_in I f g r i
      omega
    refine x_iload dX4_unlikeOf_6 rfl ?_
    refine x_iconst dX4_unlikeOf_8 ?_
    refine x_icmp_gt (t := 48) dX4_unlikeOf_9 (by decide) (by omega) (fun c_9 => absurd c_9 (by omega)) (fun c_9 => ?_)
    refine x_iconst dX4_unlikeOf_12 ?_
    refine x_istore dX4_unlikeOf_13 (by decide) ?_
    refine rr_for (g := fun e l => min l (m_unlikeBy I f g r e)) (hi := 2) (P := fun i a => -1 ≤ i ∧ i ≤ 2 ∧ 0 ≤ a ∧ a ≤ 25) (W := fun i a => mm G yX4_unlikeOf cX4_unlikeOf 6 (some FieldType.int) 2 nx _ _ 15 [some (vR (some 360)), some (vI f), some (vI g), some (vI a), some (vI r), some (vI i)] [] I) ?_ ?_ (-1) l rfl (by omega)
    · intro i hi hp
      refine x_iload dX4_unlikeOf_15 rfl ?_
      refine x_iconst dX4_unlikeOf_17 ?_
      refine x_icmp_gt (t := 42) dX4_unlikeOf_18 (by decide) (by omega) (fun c_18 => ?_) (fun c_18 => absurd (by omega) c_18)
      refine x_iinc dX4_unlikeOf_42 rfl (by decide) ?_
      refine x_goto (t := 6) dX4_unlikeOf_45 (by decide) ?_
      exact x_loc (by repeat first | exact trivial | refine ⟨Or.inr rfl, ?_⟩ | refine ⟨Or.inl rfl, ?_⟩) (ih ⟨by omega, by omega, hin⟩)
    · intro e l he hp ih2
      have := m_unlikeBy_in I f g r e
      refine x_iload dX4_unlikeOf_15 rfl ?_
      refine x_iconst dX4_unlikeOf_17 ?_
      refine x_icmp_gt (t := 42) dX4_unlikeOf_18 (by decide) (by omega) (fun c_18 => absurd c_18 (by omega)) (fun c_18 => ?_)
      refine x_iload_n dX4_unlikeOf_21 rfl ?_
      refine x_aload_n dX4_unlikeOf_22 rfl ?_
      refine x_iload_n dX4_unlikeOf_23 rfl ?_
      refine x_iload_n dX4_unlikeOf_24 rfl ?_
      refine x_iload dX4_unlikeOf_25 rfl ?_
      refine x_iload dX4_unlikeOf_27 rfl ?_
      refine m_cv4 (c_unlikeBy (by omega) (by omega) (by omega) (by omega)) fX4_unlikeBy q2414 (by decide) (Nat.le_of_ble_eq_true rfl) dX4_unlikeOf_29 ?_
      refine x_mmin (by omega) q2306 (by decide) (Nat.le_of_ble_eq_true rfl) dX4_unlikeOf_32 ?_
      refine x_istore_n dX4_unlikeOf_35 (by decide) ?_
      refine x_iinc dX4_unlikeOf_36 rfl (by decide) ?_
      refine x_goto (t := 15) dX4_unlikeOf_39 (by decide) ?_
      exact ih2 (by omega)
theorem m_unlikeOf_in (I : Nat → Int → Int) (f g : Int) : 0 ≤ m_unlikeOf I f g ∧ m_unlikeOf I f g ≤ 25 := by
  unfold m_unlikeOf
  refine itr_inv (fun r l => itr (fun e l => min l (m_unlikeBy I f g r e)) (-1) 2 l) (-1) 2 25 (fun _ v => 0 ≤ v ∧ v ≤ 25) (by omega) (fun r l h1 h2 h3 => ?_)
  refine itr_inv (fun e l => min l (m_unlikeBy I f g r e)) (-1) 2 l (fun _ v => 0 ≤ v ∧ v ≤ 25) h3 (fun i v h1 h2 h3 => ?_)
  have := m_unlikeBy_in I f g r i
  omega
theorem c_unlike {I : Nat → Int → Int} {f g : Int} (h1 : -2147483648 ≤ f ∧ f < 2147483648) (h2 : -2147483648 ≤ g ∧ g < 2147483648) (hf : 0 ≤ I 360 4 ∧ I 360 4 ≤ 20) : mC yX4_unlike cX4_unlike 3 (some FieldType.int) 3 [vR (some 360), vI f, vI g] I (some (vI (if (0 ≤ f ∧ f < I 360 4) ∧ 0 ≤ g ∧ g < I 360 4 then m_unlikeOf I f g else -1))) I := by
  refine mC.of (by decide) rfl (Nat.le_of_ble_eq_true rfl) (fun G nx => ?_)
  refine x_ls (ls2 := [some (vR (some 360)), some (vI f), some (vI g)]) rfl ?_
  refine x_aload_n dX4_unlike_0 rfl ?_
  refine x_iload_n dX4_unlike_1 rfl ?_
  refine m_cv1 (c_isForm (by omega) (by assumption)) fX4_isForm q2382 (by decide) (Nat.le_of_ble_eq_true rfl) dX4_unlike_2 ?_
  refine x_if_eq_b (t := 25) dX4_unlike_5 (by decide) (fun c_5 => ?_) (fun c_5 => ?_)
  · skip
    rw [if_neg (by omega)]
    refine x_iconst dX4_unlike_25 ?_
    refine x_iret rfl dX4_unlike_26 (Nat.le_refl _) (Nat.le_refl _) ?_
    exact ⟨rfl, rfl, rfl⟩
  · skip
    refine x_aload_n dX4_unlike_8 rfl ?_
    refine x_iload_n dX4_unlike_9 rfl ?_
    refine m_cv1 (c_isForm (by omega) (by assumption)) fX4_isForm q2382 (by decide) (Nat.le_of_ble_eq_true rfl) dX4_unlike_10 ?_
    refine x_if_eq_b (t := 25) dX4_unlike_13 (by decide) (fun c_13 => ?_) (fun c_13 => ?_)
    · skip
      rw [if_neg (by omega)]
      refine x_iconst dX4_unlike_25 ?_
      refine x_iret rfl dX4_unlike_26 (Nat.le_refl _) (Nat.le_refl _) ?_
      exact ⟨rfl, rfl, rfl⟩
    · skip
      rw [if_pos (by omega)]
      refine x_aload_n dX4_unlike_16 rfl ?_
      refine x_iload_n dX4_unlike_17 rfl ?_
      refine x_iload_n dX4_unlike_18 rfl ?_
      refine m_cv2 (c_unlikeOf (by omega) (by omega)) fX4_unlikeOf q2410 (by decide) (Nat.le_of_ble_eq_true rfl) dX4_unlike_19 ?_
      refine x_goto (t := 26) dX4_unlike_22 (by decide) ?_
      refine x_iret rfl dX4_unlike_26 (Nat.le_refl _) (Nat.le_refl _) ?_
      exact ⟨rfl, rfl, rfl⟩
/-- two forms are linked -/
def lk (I : Nat → Int → Int) (a b : Int) : Prop := I 369 (twoAt a b) = 1 ∨ (I 369 (twoAt a b) ≠ 2 ∧ m_unlikeOf I a b ≤ I 369 0)
theorem c_areLinked {I : Nat → Int → Int} {a b : Int} (ha : 0 ≤ a ∧ a < 20) (hb : 0 ≤ b ∧ b < 20) (ht : ∀ j, 24 ≤ j → j < 424 → 0 ≤ I 369 j ∧ I 369 j < 3) (hl : 0 ≤ I 369 0 ∧ I 369 0 < 100) : mC yX4_areLinked cX4_areLinked 4 (some FieldType.boolean) 3 [vR (some 360), vI a, vI b] I (some (vI (bi (lk I a b)))) I := by
  have h1 := twoAt_in ha hb
  have h2 := ht _ h1.1 h1.2
  have h3 := m_unlikeOf_in I a b
  refine mC.of (by decide) rfl (Nat.le_of_ble_eq_true rfl) (fun G nx => ?_)
  refine x_ls (ls2 := [some (vR (some 360)), some (vI a), some (vI b), none]) rfl ?_
  refine x_aload_n dX4_areLinked_0 rfl ?_
  refine m_getA (kf := 15) 15 (a := 369) (by decide) rfl rfl q2130 rfl rfl dX4_areLinked_1 ?_
  refine x_iload_n dX4_areLinked_4 rfl ?_
  refine x_iload_n dX4_areLinked_5 rfl ?_
  refine m_cs2 (c_twoAt (by omega) (by omega)) fX4_twoAt q2386 (by decide) (Nat.le_of_ble_eq_true rfl) dX4_areLinked_6 ?_
  refine m_iald (n := 460) rfl rfl (by decide) (by omega) dX4_areLinked_9 ?_
  refine x_istore_n dX4_areLinked_10 (by decide) ?_
  refine x_iload_n dX4_areLinked_11 rfl ?_
  refine x_iconst dX4_areLinked_12 ?_
  refine x_icmp_eq (t := 36) dX4_areLinked_13 (by decide) (by omega) (fun c_13 => ?_) (fun c_13 => ?_)
  · skip
    refine x_iconst dX4_areLinked_36 ?_
    refine x_goto (t := 41) dX4_areLinked_37 (by decide) ?_
    refine x_zret rfl dX4_areLinked_41 (by first | exact Or.inl rfl | exact Or.inr rfl | exact bi_01 _ | omega) (Nat.le_refl _) (Nat.le_refl _) ?_
    exact ⟨by first | exact rT (by unfold lk; omega) | exact rF (by unfold lk; omega), rfl, rfl⟩
  · skip
    refine x_iload_n dX4_areLinked_16 rfl ?_
    refine x_iconst dX4_areLinked_17 ?_
    refine x_icmp_eq (t := 40) dX4_areLinked_18 (by decide) (by omega) (fun c_18 => ?_) (fun c_18 => ?_)
    · skip
      refine x_iconst dX4_areLinked_40 ?_
      refine x_zret rfl dX4_areLinked_41 (by first | exact Or.inl rfl | exact Or.inr rfl | exact bi_01 _ | omega) (Nat.le_refl _) (Nat.le_refl _) ?_
      exact ⟨by first | exact rT (by unfold lk; omega) | exact rF (by unfold lk; omega), rfl, rfl⟩
    · skip
      refine x_aload_n dX4_areLinked_21 rfl ?_
      refine x_iload_n dX4_areLinked_22 rfl ?_
      refine x_iload_n dX4_areLinked_23 rfl ?_
      refine m_cv2 (c_unlikeOf (by omega) (by omega)) fX4_unlikeOf q2410 (by decide) (Nat.le_of_ble_eq_true rfl) dX4_areLinked_24 ?_
      refine x_aload_n dX4_areLinked_27 rfl ?_
      refine m_getA (kf := 15) 15 (a := 369) (by decide) rfl rfl q2130 rfl rfl dX4_areLinked_28 ?_
      refine x_iconst dX4_areLinked_31 ?_
      refine m_iald (n := 460) rfl rfl (by decide) (by omega) dX4_areLinked_32 ?_
      refine x_icmp_gt (t := 40) dX4_areLinked_33 (by decide) (by omega) (fun c_33 => ?_) (fun c_33 => ?_)
      · skip
        refine x_iconst dX4_areLinked_40 ?_
        refine x_zret rfl dX4_areLinked_41 (by first | exact Or.inl rfl | exact Or.inr rfl | exact bi_01 _ | omega) (Nat.le_refl _) (Nat.le_refl _) ?_
        exact ⟨by first | exact rT (by unfold lk; omega) | exact rF (by unfold lk; omega), rfl, rfl⟩
      · skip
        refine x_iconst dX4_areLinked_36 ?_
        refine x_goto (t := 41) dX4_areLinked_37 (by decide) ?_
        refine x_zret rfl dX4_areLinked_41 (by first | exact Or.inl rfl | exact Or.inr rfl | exact bi_01 _ | omega) (Nat.le_refl _) (Nat.le_refl _) ?_
        exact ⟨by first | exact rT (by unfold lk; omega) | exact rF (by unfold lk; omega), rfl, rfl⟩
/-- hangs together by r -/
def Con (r : Int → Int → Prop) (a b : Int) : Prop := ∀ E : Int → Int → Prop, (∀ x, E x x) → (∀ x y, E x y → E y x) → (∀ x y z, E x y → E y z → E x z) → (∀ x y, r x y → E x y) → E a b
theorem Con.rf (r : Int → Int → Prop) (a : Int) : Con r a a := fun E h _ _ _ => h a
theorem Con.symm {r : Int → Int → Prop} {a b : Int} (h : Con r a b) : Con r b a := fun E h1 h2 h3 h4 => h2 _ _ (h E h1 h2 h3 h4)
theorem Con.trans {r : Int → Int → Prop} {a b c : Int} (h : Con r a b) (h' : Con r b c) : Con r a c := fun E h1 h2 h3 h4 => h3 _ _ _ (h E h1 h2 h3 h4) (h' E h1 h2 h3 h4)
theorem Con.of {r : Int → Int → Prop} {a b : Int} (h : r a b) : Con r a b := fun E _ _ _ h4 => h4 _ _ h
/-- s gives each of 0 .. n-1 the least one that it hangs together with -/
def Least (r : Int → Int → Prop) (n : Int) (s : Int → Int) : Prop := ∀ f, 0 ≤ f → f < n → (0 ≤ s f ∧ s f ≤ f) ∧ Con r f (s f) ∧ ∀ g, 0 ≤ g → g < n → r f g → s f = s g
/-- the pairs within 0 .. n-1 -/
def In2 (n : Int) (r : Int → Int → Prop) (a b : Int) : Prop := (0 ≤ a ∧ a < n) ∧ (0 ≤ b ∧ b < n) ∧ r a b
/-- the sum of the first n -/
def smN (s : Int → Int) : Nat → Nat
  | 0 => 0
  | k + 1 => smN s k + (s k).toNat
theorem smN_out (s : Int → Int) (n : Nat) {b : Int} (v : Int) (h : n ≤ b) : smN (upA s b v) n = smN s n := by
  induction n with
  | zero => rfl
  | succ n ih => simp only [smN]; rw [ih (by omega), upA_n _ _ (by omega)]
theorem smN_lt (s : Int → Int) (n : Nat) {b v : Int} (hb : 0 ≤ b ∧ b < n) (hv : 0 ≤ v ∧ v < s b) : smN (upA s b v) n < smN s n := by
  induction n with
  | zero => omega
  | succ n ih =>
    simp only [smN]
    by_cases e : b = n
    · rw [smN_out s n v (by omega), e, upA_s]
      rw [e] at hv
      omega
    · have := ih (by omega)
      rw [upA_n _ _ (by omega)]
      omega
/-- the count of those that P holds of -/
noncomputable def cnt (P : Int → Prop) (n : Int) : Int := itr (fun k c => c + bi (P k)) 0 n 0

/-- laysSigns: the pairs that it looks at -/
theorem sg_pass {s : Int → Int} {n : Int} {r : Int → Int → Prop} (hI : ∀ f, 0 ≤ f → f < n → (0 ≤ s f ∧ s f ≤ f) ∧ Con (In2 n r) f (s f)) {a b : Int} (ha : 0 ≤ a ∧ a < n) (hb : 0 ≤ b ∧ b < n) (hlt : s a < s b) (hr : r a b) : ∀ f, 0 ≤ f → f < n → (0 ≤ upA s b (s a) f ∧ upA s b (s a) f ≤ f) ∧ Con (In2 n r) f (upA s b (s a) f) := by
  intro f h1 h2
  by_cases e : f = b
  · subst e
    rw [upA_s]
    have h3 := hI a ha.1 ha.2
    have h4 := hI f h1 h2
    exact ⟨by omega, (Con.of (⟨ha, hb, hr⟩ : In2 n r a f)).symm.trans h3.2⟩
  · rw [upA_n _ _ e]
    exact hI f h1 h2
def SgInv (I : Nat → Int → Int) (s : Int → Int) : Prop := ∀ f, 0 ≤ f → f < I 360 4 → (0 ≤ s f ∧ s f ≤ f) ∧ Con (In2 (I 360 4) (lk I)) f (s f)
/-- what holds behind laysSigns -/
def SgPost (I I' : Nat → Int → Int) : Prop := eqx I I' [371] [19] ∧ SgInv I (I' 371) ∧ (∀ a b, 0 ≤ a → a < I 360 4 → 0 ≤ b → b < I 360 4 → a ≠ b → I' 371 a < I' 371 b → ¬ lk I a b) ∧ I' 360 19 = cnt (fun f => I' 371 f = f) (I 360 4)
theorem lk_stA (I : Nat → Int → Int) (s : Int → Int) : lk (stA I 371 s) = lk I := by
  have h : m_unlikeOf (stA I 371 s) = m_unlikeOf I := by
    funext f g
    unfold m_unlikeOf m_unlikeBy m_dotOf
    rw [stA_ne I s (by decide)]
  funext a b
  unfold lk
  rw [h, stA_ne I s (by decide)]
theorem x_top {G : rr_G} {y : MethodName} {cc : ByteArray} {nL : Nat} {ret : Option FieldType} {d mc ms : Nat} {Q : List Frame → Array Value → State → State → Prop} {pc : Nat} {ls : List (Option rr_V)} {st : List rr_V} {h : rr_H} {nx cu su : Nat} {z : Int} (w : Int) (e : z = w) (k : rr_R G y cc nL ret d mc ms Q pc ls (vI w :: st) h nx cu su) : rr_R G y cc nL ret d mc ms Q pc ls (vI z :: st) h nx cu su := e ▸ k
def sg0 (n : Int) (s : Int → Int) : Int → Int := fun j => if 0 ≤ j ∧ j < n then j else s j
theorem sg0_in {n : Int} {s : Int → Int} {j : Int} (h : 0 ≤ j ∧ j < n) : sg0 n s j = j := if_pos h
theorem sg0_s (s : Int → Int) {k : Int} (h : 0 ≤ k) : upA (sg0 k s) k k = sg0 (k + 1) s := by
  funext j; simp only [upA, sg0]; grind
theorem sg0_0 (s : Int → Int) : sg0 0 s = s := by funext j; simp only [sg0]; rw [if_neg (by omega)]
theorem itr_up {α : Type} (g : Int → α → α) {lo k : Int} (a : α) (h : lo ≤ k) : itr g lo (k + 1) a = g k (itr g lo k a) := by
  have key : ∀ (n : Nat) (lo : Int) (a : α), (k - lo).toNat = n → lo ≤ k → itr g lo (k + 1) a = g k (itr g lo k a) := by
    intro n
    induction n with
    | zero =>
      intro lo a h1 h2
      have : lo = k := by omega
      subst this
      rw [itr_step g a (by omega), itr_stop g _ (by omega), itr_stop g _ (by omega)]
    | succ n ih =>
      intro lo a h1 h2
      rw [itr_step g a (show lo < k + 1 by omega), itr_step g a (show lo < k by omega)]
      exact ih (lo + 1) _ (by omega) (by omega)
  exact key _ lo a rfl h
theorem cnt_up (P : Int → Prop) {k : Int} (h : 0 ≤ k) : cnt P (k + 1) = cnt P k + bi (P k) := itr_up _ _ h
theorem cnt_0 (P : Int → Prop) : cnt P 0 = 0 := itr_stop _ _ (Int.le_refl 0)
theorem cnt_in (P : Int → Prop) {n : Int} (h : 0 ≤ n) : 0 ≤ cnt P n ∧ cnt P n ≤ n := by
  have := itr_in (fun k c => c + bi (P k)) 0 n 0 0 0 h (by omega) (fun i v _ _ => by have := bi_01 (P i); omega)
  unfold cnt
  omega
theorem c_laysSigns_count {I : Nat → Int → Int} {s : Int → Int} {G : rr_G} {nx : Nat} (hf : 0 ≤ I 360 4 ∧ I 360 4 ≤ 20) (hs : SgInv I s) (hcl : ∀ a b, 0 ≤ a → a < I 360 4 → 0 ≤ b → b < I 360 4 → a ≠ b → s a < s b → ¬ lk I a b) :
    me G yX4_laysSigns cX4_laysSigns 4 none 4 nx (SgPost I) 116 [some (vR (some 360)), none, some (vI 0), none] [] (rr_u2 (stA I 371 s) 360 19 0) := by
  have e4 : ∀ v, rr_u2 (stA I 371 s) 360 19 v 360 4 = I 360 4 := fun v => by rw [rr_u2_ne _ _ (by omega), stA_ne I s (by decide)]
  have es : ∀ v, rr_u2 (stA I 371 s) 360 19 v 371 = s := fun v => by funext j; rw [rr_u2_ne _ _ (by omega), stA_same]
  have eu : ∀ v w, rr_u2 (rr_u2 (stA I 371 s) 360 19 v) 360 19 w = rr_u2 (stA I 371 s) 360 19 w := fun v w => by apply rr_u2_eq; intro x j; simp only [rr_u2]; grind
  refine x_h (h2 := mh (rr_u2 (stA I 371 s) 360 19 (cnt (fun f => s f = f) 0))) (by rw [cnt_0]) ?_
  refine rr_ind (W := fun q => me G yX4_laysSigns cX4_laysSigns 4 none 4 nx _ 116 [some (vR (some 360)), none, some (vI q), none] [] (rr_u2 (stA I 371 s) 360 19 (cnt (fun f => s f = f) q))) (fun q => (I 360 4 - q).toNat) (fun q => 0 ≤ q ∧ q ≤ I 360 4) ?_ 0 (by omega)
  intro q hq ih
  have hc := cnt_in (fun f => s f = f) hq.1
  have hb : 0 ≤ q → q < I 360 4 → 0 ≤ s q ∧ s q ≤ q := fun h1 h2 => (hs q h1 h2).1
  refine x_iload_n dX4_laysSigns_116 rfl ?_
  refine x_aload_n dX4_laysSigns_117 rfl ?_
  refine m_getI (kf := 4) 4 (by decide) rfl rfl q2119 rfl dX4_laysSigns_118 ?_
  rw [e4]
  refine x_icmp_ge (t := 157) dX4_laysSigns_121 (by decide) (by omega) (fun c_121 => ?_) (fun c_121 => ?_)
  · skip
    refine x_vret rfl dX4_laysSigns_157 (Nat.le_refl _) (Nat.le_refl _) ?_
    have hq2 : q = I 360 4 := by omega
    refine ⟨rfl, rfl, _, rfl, ⟨fun x h1 h2 => ?_, fun j hj => ?_⟩, ?_, ?_, ?_⟩
    · funext j
      rw [rr_u2_ne _ _ (by omega), stA_ne I s (by simpa using h2)]
    · rw [rr_u2_ne _ _ (by simp at hj; omega), stA_ne I s (by decide)]
    · rw [es]; exact hs
    · rw [es]; exact hcl
    · rw [es, rr_u2_same, hq2]
  · skip
    refine x_aload_n dX4_laysSigns_124 rfl ?_
    refine x_dup dX4_laysSigns_125 rfl ?_
    refine m_getI (kf := 19) 19 (by decide) rfl rfl q2134 rfl dX4_laysSigns_126 ?_
    rw [rr_u2_same]
    refine x_aload_n dX4_laysSigns_129 rfl ?_
    refine m_getA (kf := 18) 18 (a := 371) (by decide) rfl rfl q2133 rfl rfl dX4_laysSigns_130 ?_
    refine x_iload_n dX4_laysSigns_133 rfl ?_
    refine m_iald (n := 20) rfl rfl (by decide) (by omega) dX4_laysSigns_134 ?_
    rw [es]
    refine x_iload_n dX4_laysSigns_135 rfl ?_
    refine x_icmp_ne (t := 143) dX4_laysSigns_136 (by decide) (by have := hb hq.1 (by omega); omega) (fun c_136 => ?_) (fun c_136 => ?_)
    · skip
      refine x_iconst dX4_laysSigns_143 ?_
      refine x_top (bi (s q = q)) (by first | exact (bi_f c_136).symm | exact (bi_t c_136).symm) ?_
      refine m_cs1 (c_truth) fX4_truth q2327 (by decide) (Nat.le_of_ble_eq_true rfl) dX4_laysSigns_144 ?_
      refine x_iadd dX4_laysSigns_147 ?_
      refine m_putI (kf := 19) 19 (by decide) rfl rfl q2134 rfl rfl (rr_nar_i _) dX4_laysSigns_148 ?_
      rw [eu, ← cnt_up (fun f => s f = f) hq.1]
      refine x_iinc dX4_laysSigns_151 rfl (by decide) ?_
      refine x_goto (t := 116) dX4_laysSigns_154 (by decide) ?_
      exact ih (q + 1) (by omega) (by omega)
    · skip
      refine x_iconst dX4_laysSigns_139 ?_
      refine x_goto (t := 144) dX4_laysSigns_140 (by decide) ?_
      refine x_top (bi (s q = q)) (by first | exact (bi_f c_136).symm | exact (bi_t c_136).symm) ?_
      refine m_cs1 (c_truth) fX4_truth q2327 (by decide) (Nat.le_of_ble_eq_true rfl) dX4_laysSigns_144 ?_
      refine x_iadd dX4_laysSigns_147 ?_
      refine m_putI (kf := 19) 19 (by decide) rfl rfl q2134 rfl rfl (rr_nar_i _) dX4_laysSigns_148 ?_
      rw [eu, ← cnt_up (fun f => s f = f) hq.1]
      refine x_iinc dX4_laysSigns_151 rfl (by decide) ?_
      refine x_goto (t := 116) dX4_laysSigns_154 (by decide) ?_
      exact ih (q + 1) (by omega) (by omega)
theorem c_laysSigns {I : Nat → Int → Int} (hf : 0 ≤ I 360 4 ∧ I 360 4 ≤ 20) (ht : ∀ j, 24 ≤ j → j < 424 → 0 ≤ I 369 j ∧ I 369 j < 3) (hl : 0 ≤ I 369 0 ∧ I 369 0 < 100) : mE yX4_laysSigns cX4_laysSigns 4 none 4 [vR (some 360)] I (SgPost I) := by
  have e4 : ∀ s, stA I 371 s 360 4 = I 360 4 := fun s => by rw [stA_ne I s (by decide)]
  have et : ∀ s, stA I 371 s 369 = I 369 := fun s => stA_ne I s (by decide)
  obtain ⟨N, hN⟩ : ∃ N : Nat, I 360 4 = N := ⟨(I 360 4).toNat, by omega⟩
  refine mE.of (by decide) rfl (Nat.le_of_ble_eq_true rfl) (fun G nx => ?_)
  refine x_ls (ls2 := [some (vR (some 360)), none, none, none]) rfl ?_
  refine x_iconst dX4_laysSigns_0 ?_
  refine x_istore_n dX4_laysSigns_1 (by decide) ?_
  refine x_h (h2 := mh (stA I 371 (sg0 0 (I 371)))) (by rw [sg0_0, stA_self]) ?_
  refine rr_ind (W := fun k => me G yX4_laysSigns cX4_laysSigns 4 none 4 nx _ 2 [some (vR (some 360)), some (vI k), none, none] [] (stA I 371 (sg0 k (I 371)))) (fun k => (I 360 4 - k).toNat) (fun k => 0 ≤ k ∧ k ≤ I 360 4) ?_ 0 (by omega)
  intro k hk ih
  refine x_iload_n dX4_laysSigns_2 rfl ?_
  refine x_aload_n dX4_laysSigns_3 rfl ?_
  refine m_getI (kf := 4) 4 (by decide) rfl rfl q2119 rfl dX4_laysSigns_4 ?_
  rw [e4]
  refine x_icmp_ge (t := 23) dX4_laysSigns_7 (by decide) (by omega) (fun c_7 => ?_) (fun c_7 => ?_)
  · skip
    have hk2 : k = I 360 4 := by omega
    subst hk2
    refine x_iconst dX4_laysSigns_23 ?_
    refine x_istore_n dX4_laysSigns_24 (by decide) ?_
    refine rr_ind (W := fun q : Int × (Int → Int) => me G yX4_laysSigns cX4_laysSigns 4 none 4 nx _ 25 [some (vR (some 360)), some (vI q.1), none, none] [] (stA I 371 q.2)) (fun q => 2 * smN q.2 N + q.1.toNat) (fun q => SgInv I q.2 ∧ (q.1 = 1 ∨ (q.1 = 0 ∧ ∀ a b, 0 ≤ a → a < I 360 4 → 0 ≤ b → b < I 360 4 → a ≠ b → q.2 a < q.2 b → ¬ lk I a b))) ?_ (1, sg0 (I 360 4) (I 371)) ⟨fun f h1 h2 => ?_, Or.inl rfl⟩
    · rintro ⟨on, s0⟩ ⟨hs0, hon⟩ ih2
      simp only at hs0 hon ih2
      dsimp only
      refine x_iload_n dX4_laysSigns_25 rfl ?_
      refine x_if_eq (t := 109) dX4_laysSigns_26 (by decide) (by omega) (fun c_26 => ?_) (fun c_26 => ?_)
      · skip
        have hcl := (hon.resolve_left (by omega)).2
        refine x_aload_n dX4_laysSigns_109 rfl ?_
        refine x_iconst dX4_laysSigns_110 ?_
        refine m_putI (kf := 19) 19 (by decide) rfl rfl q2134 rfl rfl (rr_nar_i _) dX4_laysSigns_111 ?_
        refine x_iconst dX4_laysSigns_114 ?_
        refine x_istore_n dX4_laysSigns_115 (by decide) ?_
        exact x_loc (by repeat first | exact trivial | refine ⟨Or.inr rfl, ?_⟩ | refine ⟨Or.inl rfl, ?_⟩) (c_laysSigns_count hf hs0 hcl)
      · skip
        have hon1 : on = 1 := hon.resolve_right (by omega)
        subst hon1
        refine x_iconst dX4_laysSigns_29 ?_
        refine x_istore_n dX4_laysSigns_30 (by decide) ?_
        refine x_iconst dX4_laysSigns_31 ?_
        refine x_istore_n dX4_laysSigns_32 (by decide) ?_
        refine rr_ind (W := fun q : Int × Int × (Int → Int) => me G yX4_laysSigns cX4_laysSigns 4 none 4 nx _ 33 [some (vR (some 360)), some (vI q.2.1), some (vI q.1), none] [] (stA I 371 q.2.2)) (fun q => (I 360 4 - q.1).toNat) (fun q => (0 ≤ q.1 ∧ q.1 ≤ I 360 4) ∧ SgInv I q.2.2 ∧ ((q.2.1 = 1 ∧ smN q.2.2 N < smN s0 N) ∨ (q.2.1 = 0 ∧ q.2.2 = s0 ∧ ∀ a b, 0 ≤ a → a < q.1 → 0 ≤ b → b < I 360 4 → a ≠ b → s0 a < s0 b → ¬ lk I a b))) ?_ (0, 0, s0) ⟨by simp only; omega, hs0, Or.inr ⟨rfl, rfl, fun a b h1 h2 => by simp only at h2; omega⟩⟩
        rintro ⟨a, on, s⟩ ⟨ha, hs, hc⟩ ih3
        simp only at ha hs hc ih3
        dsimp only
        refine x_iload_n dX4_laysSigns_33 rfl ?_
        refine x_aload_n dX4_laysSigns_34 rfl ?_
        refine m_getI (kf := 4) 4 (by decide) rfl rfl q2119 rfl dX4_laysSigns_35 ?_
        rw [e4]
        refine x_icmp_ge (t := 106) dX4_laysSigns_38 (by decide) (by omega) (fun c_38 => ?_) (fun c_38 => ?_)
        · skip
          have hend := ih2 (on, s) ⟨hs, by
            rcases hc with h | h
            · exact Or.inl h.1
            · exact Or.inr ⟨h.1, by rw [h.2.1]; exact fun a' b h1 h2 => h.2.2 a' b h1 (by omega)⟩⟩ (by
            rcases hc with h | h
            · have := h.2; have := h.1; simp only; omega
            · have := h.1; rw [h.2.1]; simp only; omega)
          refine x_goto (t := 25) dX4_laysSigns_106 (by decide) ?_
          exact x_loc (by repeat first | exact trivial | refine ⟨Or.inr rfl, ?_⟩ | refine ⟨Or.inl rfl, ?_⟩) hend
        · skip
          refine x_iconst dX4_laysSigns_41 ?_
          refine x_istore_n dX4_laysSigns_42 (by decide) ?_
          refine rr_ind (W := fun q : Int × Int × (Int → Int) => me G yX4_laysSigns cX4_laysSigns 4 none 4 nx _ 43 [some (vR (some 360)), some (vI q.2.1), some (vI a), some (vI q.1)] [] (stA I 371 q.2.2)) (fun q => (I 360 4 - q.1).toNat) (fun q => (0 ≤ q.1 ∧ q.1 ≤ I 360 4) ∧ SgInv I q.2.2 ∧ ((q.2.1 = 1 ∧ smN q.2.2 N < smN s0 N) ∨ (q.2.1 = 0 ∧ q.2.2 = s0 ∧ (∀ a' b, 0 ≤ a' → a' < a → 0 ≤ b → b < I 360 4 → a' ≠ b → s0 a' < s0 b → ¬ lk I a' b) ∧ ∀ b, 0 ≤ b → b < q.1 → a ≠ b → s0 a < s0 b → ¬ lk I a b))) ?_ (0, on, s) ⟨by simp only; omega, hs, by
            rcases hc with h | h
            · exact Or.inl h
            · exact Or.inr ⟨h.1, h.2.1, h.2.2, fun b h1 h2 => by simp only at h2; omega⟩⟩
          rintro ⟨b, on2, s2⟩ ⟨hb, hs2, hc2⟩ ih4
          simp only at hb hs2 hc2 ih4
          dsimp only
          have hsa := (hs2 a ha.1 (by omega)).1
          have hsb : 0 ≤ b → b < I 360 4 → 0 ≤ s2 b ∧ s2 b ≤ b := fun h1 h2 => (hs2 b h1 h2).1
          have hskip : b < I 360 4 → (on2 = 0 → s2 = s0 → a ≠ b → s0 a < s0 b → ¬ lk I a b) → me G yX4_laysSigns cX4_laysSigns 4 none 4 nx _ 43 [some (vR (some 360)), some (vI on2), some (vI a), some (vI (b + 1))] [] (stA I 371 s2) := fun hb1 h => ih4 (b + 1, on2, s2) ⟨by simp only; omega, hs2, by
            rcases hc2 with g | g
            · exact Or.inl g
            · refine Or.inr ⟨g.1, g.2.1, g.2.2.1, fun b' h1 h2 => ?_⟩
              by_cases e : b' = b
              · rw [e]; exact h g.1 g.2.1
              · exact g.2.2.2 b' h1 (by simp only at h2; omega)⟩ (by simp only; omega)
          refine x_iload_n dX4_laysSigns_43 rfl ?_
          refine x_aload_n dX4_laysSigns_44 rfl ?_
          refine m_getI (kf := 4) 4 (by decide) rfl rfl q2119 rfl dX4_laysSigns_45 ?_
          rw [e4]
          refine x_icmp_ge (t := 100) dX4_laysSigns_48 (by decide) (by omega) (fun c_48 => ?_) (fun c_48 => ?_)
          · skip
            have hgo := ih3 (a + 1, on2, s2) ⟨by simp only; omega, hs2, by
              rcases hc2 with g | g
              · exact Or.inl g
              · refine Or.inr ⟨g.1, g.2.1, fun a' b' h1 h2 h3 h4 => ?_⟩
                by_cases e : a' = a
                · rw [e]; exact g.2.2.2 b' h3 (by simp only at h2; omega)
                · exact g.2.2.1 a' b' h1 (by simp only at h2; omega) h3 h4⟩ (by simp only; omega)
            refine x_iinc dX4_laysSigns_100 rfl (by decide) ?_
            refine x_goto (t := 33) dX4_laysSigns_103 (by decide) ?_
            exact x_loc (by repeat first | exact trivial | refine ⟨Or.inr rfl, ?_⟩ | refine ⟨Or.inl rfl, ?_⟩) hgo
          · skip
            refine x_iload_n dX4_laysSigns_51 rfl ?_
            refine x_iload_n dX4_laysSigns_52 rfl ?_
            refine x_icmp_eq (t := 94) dX4_laysSigns_53 (by decide) (by omega) (fun c_53 => ?_) (fun c_53 => ?_)
            · skip
              have hgo := hskip (by omega) (fun _ _ h => absurd c_53 h)
              refine x_iinc dX4_laysSigns_94 rfl (by decide) ?_
              refine x_goto (t := 43) dX4_laysSigns_97 (by decide) ?_
              exact hgo
            · skip
              refine x_aload_n dX4_laysSigns_56 rfl ?_
              refine m_getA (kf := 18) 18 (a := 371) (by decide) rfl rfl q2133 rfl rfl dX4_laysSigns_57 ?_
              refine x_iload_n dX4_laysSigns_60 rfl ?_
              refine m_iald (n := 20) rfl rfl (by decide) (by omega) dX4_laysSigns_61 ?_
              rw [stA_same]
              refine x_aload_n dX4_laysSigns_62 rfl ?_
              refine m_getA (kf := 18) 18 (a := 371) (by decide) rfl rfl q2133 rfl rfl dX4_laysSigns_63 ?_
              refine x_iload_n dX4_laysSigns_66 rfl ?_
              refine m_iald (n := 20) rfl rfl (by decide) (by omega) dX4_laysSigns_67 ?_
              rw [stA_same]
              refine x_icmp_ge (t := 94) dX4_laysSigns_68 (by decide) (by have := hsb hb.1 (by omega); omega) (fun c_68 => ?_) (fun c_68 => ?_)
              · skip
                have hgo := hskip (by omega) (fun _ e _ h => by rw [e] at c_68; omega)
                refine x_iinc dX4_laysSigns_94 rfl (by decide) ?_
                refine x_goto (t := 43) dX4_laysSigns_97 (by decide) ?_
                exact hgo
              · skip
                refine x_aload_n dX4_laysSigns_71 rfl ?_
                refine x_iload_n dX4_laysSigns_72 rfl ?_
                refine x_iload_n dX4_laysSigns_73 rfl ?_
                refine m_cv2 (c_areLinked (I := stA I 371 s2) (by omega) (by omega) (by rw [et]; exact ht) (by rw [et]; exact hl)) fX4_areLinked q2406 (by decide) (Nat.le_of_ble_eq_true rfl) dX4_laysSigns_74 ?_
                refine x_if_eq_b (t := 94) dX4_laysSigns_77 (by decide) (fun c_77 => ?_) (fun c_77 => ?_)
                · skip
                  rw [lk_stA] at c_77
                  have hgo := hskip (by omega) (fun _ _ _ _ => c_77)
                  refine x_iinc dX4_laysSigns_94 rfl (by decide) ?_
                  refine x_goto (t := 43) dX4_laysSigns_97 (by decide) ?_
                  exact hgo
                · skip
                  rw [lk_stA] at c_77
                  have hsm := smN_lt s2 N (b := b) (v := s2 a) (by omega) (by omega)
                  have hgo := ih4 (b + 1, 1, upA s2 b (s2 a)) ⟨by simp only; omega, sg_pass hs2 ⟨ha.1, by omega⟩ ⟨hb.1, by omega⟩ (by omega) c_77, Or.inl ⟨rfl, by
                    rcases hc2 with g | g
                    · have := g.2; simp only; omega
                    · rw [g.2.1] at hsm; simp only; rw [g.2.1]; omega⟩⟩ (by simp only; omega)
                  refine x_aload_n dX4_laysSigns_80 rfl ?_
                  refine m_getA (kf := 18) 18 (a := 371) (by decide) rfl rfl q2133 rfl rfl dX4_laysSigns_81 ?_
                  refine x_iload_n dX4_laysSigns_84 rfl ?_
                  refine x_aload_n dX4_laysSigns_85 rfl ?_
                  refine m_getA (kf := 18) 18 (a := 371) (by decide) rfl rfl q2133 rfl rfl dX4_laysSigns_86 ?_
                  refine x_iload_n dX4_laysSigns_89 rfl ?_
                  refine m_iald (n := 20) rfl rfl (by decide) (by omega) dX4_laysSigns_90 ?_
                  rw [stA_same]
                  refine m_iast (n := 20) rfl rfl (by decide) (by omega) dX4_laysSigns_91 ?_
                  rw [stA_set]
                  refine x_iconst dX4_laysSigns_92 ?_
                  refine x_istore_n dX4_laysSigns_93 (by decide) ?_
                  refine x_iinc dX4_laysSigns_94 rfl (by decide) ?_
                  refine x_goto (t := 43) dX4_laysSigns_97 (by decide) ?_
                  exact hgo
    · dsimp only
      rw [sg0_in ⟨h1, h2⟩]
      exact ⟨by omega, Con.rf _ _⟩
  · skip
    refine x_aload_n dX4_laysSigns_10 rfl ?_
    refine m_getA (kf := 18) 18 (a := 371) (by decide) rfl rfl q2133 rfl rfl dX4_laysSigns_11 ?_
    refine x_iload_n dX4_laysSigns_14 rfl ?_
    refine x_iload_n dX4_laysSigns_15 rfl ?_
    refine m_iast (n := 20) rfl rfl (by decide) (by omega) dX4_laysSigns_16 ?_
    rw [stA_set, sg0_s _ hk.1]
    refine x_iinc dX4_laysSigns_17 rfl (by decide) ?_
    refine x_goto (t := 2) dX4_laysSigns_20 (by decide) ?_
    exact ih (k + 1) (by omega) (by omega)
