/-! TREES 3: keys, maps, getEntry -/
set_option maxRecDepth 100000
def Key (K N : Nat → Nat) (I : Nat → Int → Int) (R : Nat → Int → Option Nat) (κ k : Nat) (z : Int) : Prop := (κ = 14 ∧ ∃ b l, Str K N I R k b l ∧ l.length ≤ 7 ∧ (∀ ch ∈ l, 97 ≤ ch ∧ ch < 117) ∧ z = cod l) ∨ (κ = 22 ∧ K k = 22 ∧ I k 0 = z ∧ 0 ≤ z ∧ z < 20)
section KEY
variable {G : rr_G} {nx : Nat} {K N K2 N2 : Nat → Nat} {I I2 : Nat → Int → Int} {R R2 : Nat → Int → Option Nat} {κ k k2 M : Nat} {z z2 : Int} {L : List Nat} {c : Nat → Int}
theorem Key.kind (h : Key K N I R κ k z) : K k = κ ∧ (κ = 14 ∨ κ = 22) := by
  rcases h with ⟨rfl, b, l, hS, -⟩ | ⟨rfl, h, -⟩
  · exact ⟨hS.1.1, Or.inl rfl⟩
  · exact ⟨h, Or.inr rfl⟩
/-- keys stay where neither Strings, bytes nor Integers are written -/
theorem Key.keep (h : Key K N I R κ k z) (hk : ∀ x, K x ≠ 0 → K2 x = K x ∧ N2 x = N x) (hi : ∀ x, (K x = 14 ∨ K x = 65 ∨ K x = 22) → I2 x = I x) (hr : ∀ x, K x = 14 → R2 x = R x) : Key K2 N2 I2 R2 κ k z := by
  rcases h with ⟨e, b, l, hS, h1, h2, h3⟩ | ⟨e, h1, h2, h3⟩
  · have hs := hS.1.1
    have hb := hS.2.1.1
    exact Or.inl ⟨e, b, l, hS.keep (hk k (by omega)).1 (hr k hs) (hi k (by omega)) (hk b (by omega)).1 (hk b (by omega)).2 (hi b (by omega)), h1, h2, h3⟩
  · exact Or.inr ⟨e, by rw [(hk k (by omega)).1]; exact h1, by rw [hi k (by omega)]; exact h2, h3⟩
theorem jcmp_in : ∀ (x y : List Int), x.length ≤ 1000 → y.length ≤ 1000 → (∀ ch ∈ x, 0 ≤ ch ∧ ch < 128) → (∀ ch ∈ y, 0 ≤ ch ∧ ch < 128) → -1000 ≤ jcmp x y ∧ jcmp x y ≤ 1000
  | [], [], _, _, _, _ => by simp [jcmp]
  | [], b :: y, _, h, _, _ => by simp at h; simp only [jcmp]; omega
  | a :: x, [], h, _, _, _ => by simp at h; simp only [jcmp]; omega
  | a :: x, b :: y, h1, h2, h3, h4 => by
    have ih := jcmp_in x y (by simp at h1; omega) (by simp at h2; omega) (fun d hd => h3 d (by simp [hd])) (fun d hd => h4 d (by simp [hd]))
    have e1 := h3 a (by simp)
    have e2 := h4 b (by simp)
    simp only [jcmp]
    split <;> omega
section RULES
variable {y : MethodName} {cc : ByteArray} {nL : Nat} {ret : Option FieldType} {d mc ms : Nat} {Q : List Frame → Array Value → State → State → Prop} {pc : Nat} {ls : List (Option rr_V)} {st : List rr_V} {cu su : Nat}
theorem x_cmpK {idx cnt : Nat} (h1 : Key K N I R κ k z) (h2 : Key K N I R κ k2 z2) (hq : Cond.methodLink y.cls idx ⟨"java/lang/Comparable", "compareTo", "(Ljava/lang/Object;)I"⟩ ∈ lw_all) (hd : 5 ≤ d) (hw : rr_wd st ≤ 8) (dg : decode cc pc = .ok (.invokeinterface idx cnt, 5)) (hmc : cu ≤ mc) (hms : su ≤ ms)
    (kk : ∀ v : Int, (-2147483648 ≤ v ∧ v < 2147483648) → (v < 0 ↔ z < z2) → (v = 0 ↔ z = z2) → rr_R G y cc nL ret d mc ms Q (pc + 5) ls (vI v :: st) (K, N, I, R) nx cu su) : rr_R G y cc nL ret d mc ms Q pc ls (vR (some k2) :: vR (some k) :: st) (K, N, I, R) nx cu su := by
  rcases h1 with ⟨rfl, b, l, hS, a1, a2, a3⟩ | ⟨rfl, b1, b2, b3⟩
  · rcases h2 with ⟨-, b', l', hS', a1', a2', a3'⟩ | ⟨e, -⟩
    · have hc := codN_cmp 10 l l' (by omega) (by omega) a2 a2'
      have hin := jcmp_in l l' (by omega) (by omega) hS.2.2.2.1 hS'.2.2.2.1
      subst a3
      subst a3'
      refine g_cF1 (ci := 14) (jc_compareTo hS hS' (Or.inl a1)) (List.mem_of_getElem? (i := 4) rfl) hq q653 q655 q152 q657 (by decide +kernel) rfl (by decide) hS.1.1 (by omega) hw (by omega) (by omega) dg (fun v h2 n2 hp => ?_)
      obtain ⟨rfl, rfl, rfl⟩ := hp
      exact kk _ (by omega) hc.1 hc.2.1
    · omega
  · rcases h2 with ⟨e, -⟩ | ⟨-, c1, c2, c3⟩
    · omega
    · refine g_cF1 (ci := 22) (jc_icompareTo b1 c1 (by omega) (by omega)) (List.mem_of_getElem? (i := 3) rfl) hq q639 q641 q149 q643 (by decide +kernel) rfl (by decide) b1 (by omega) hw (by omega) (by omega) dg (fun v h2 n2 hp => ?_)
      obtain ⟨rfl, rfl, rfl⟩ := hp
      refine kk _ ?_ ?_ ?_
      · split <;> (try split) <;> omega
      · split <;> (try split) <;> omega
      · split <;> (try split) <;> omega
theorem x_castK {idx : Nat} (h1 : Key K N I R κ k z) (hq : Cond.classLink y.cls idx "java/lang/Comparable" ∈ lw_all) (dg : decode cc pc = .ok (.checkcast idx, 3)) (kk : rr_R G y cc nL ret d mc ms Q (pc + 3) ls (vR (some k) :: st) (K, N, I, R) nx cu su) : rr_R G y cc nL ret d mc ms Q pc ls (vR (some k) :: st) (K, N, I, R) nx cu su := by
  obtain ⟨e, h2⟩ := h1.kind
  rcases h2 with rfl | rfl
  · exact g_cast (ci := 14) rfl (by decide) hq (Or.inr q652) e dg kk
  · exact g_cast (ci := 22) rfl (by decide) hq (Or.inr q638) e dg kk
end RULES
theorem jc_nonNull {h : rr_H} {x : Nat} : gP G yJ13_requireNonNull cJ13_requireNonNull 1 ((some (FieldType.object "java/lang/Object"))) 0 0 0 [vR (some x)] h nx (gEq (vR (some x)) h nx) := by
  refine gP.of (by decide) rfl (Nat.le_of_ble_eq_true rfl) ?_
  refine x_ls (ls2 := [some (vR (some x))]) rfl ?_
  refine x_aload_n dJ13_requireNonNull_0 rfl ?_
  refine x_ifnonnull_y (t := 12) dJ13_requireNonNull_1 (by decide) ?_
  refine x_aload_n dJ13_requireNonNull_12 rfl ?_
  refine gp_aret rfl (Or.inl ⟨_, rfl⟩) dJ13_requireNonNull_13 (by omega) (by omega) ?_
  exact ⟨rfl, rfl, rfl⟩
def Tm (K N : Nat → Nat) (I : Nat → Int → Int) (R : Nat → Int → Option Nat) (κ M : Nat) (L : List Nat) (c : Nat → Int) : Prop :=
  (K M = 16 ∧ 300 ≤ M ∧ R M 2 = none ∧ I M 4 = L.length) ∧ (∃ ps lo hi, Trr L ps lo hi (fun x => R x 2) (fun x => R x 3) (fun x => R x 4) (R M 3)) ∧
  (∀ e, e ∈ L → K e = 17 ∧ 300 ≤ e ∧ (I e 5 = 0 ∨ I e 5 = 1) ∧ ∃ k, R e 0 = some k ∧ Key K N I R κ k (c e)) ∧ (∀ (i j a b : Nat), i < j → L[i]? = some a → L[j]? = some b → c a < c b) ∧ L.length < 100000
theorem Tm.lt (h : Tm K N I R κ M L c) {ps lo hi : Nat → Nat} {lf rt pa : Nat → Option Nat} {rot : Option Nat} (ht : Trr L ps lo hi lf rt pa rot) {a b : Nat} (ha : a ∈ L) (hb : b ∈ L) : (c a < c b ↔ ps a < ps b) ∧ (c a = c b ↔ a = b) := by
  have e1 := ht.1 a ha
  have e2 := ht.1 b hb
  have h4 := h.2.2.2.1
  rcases Nat.lt_trichotomy (ps a) (ps b) with q | q | q
  · have := h4 _ _ _ _ q e1 e2
    exact ⟨⟨fun _ => q, fun _ => this⟩, ⟨fun z => by omega, fun z => by rw [z] at q; omega⟩⟩
  · have := ht.inj ha hb q
    subst this
    exact ⟨⟨fun z => by omega, fun z => by omega⟩, ⟨fun _ => rfl, fun _ => rfl⟩⟩
  · have := h4 _ _ _ _ q e2 e1
    exact ⟨⟨fun z => by omega, fun z => by omega⟩, ⟨fun z => by omega, fun z => by rw [z] at q; omega⟩⟩
def GeP (h : rr_H) (nx : Nat) (L : List Nat) (c : Nat → Int) (z : Int) : rr_V → rr_H → Nat → Prop := fun v h2 n2 => ∃ r, v = vR r ∧ h2 = h ∧ nx = n2 ∧ ((∃ e, e ∈ L ∧ c e = z ∧ r = some e) ∨ (r = none ∧ ∀ e, e ∈ L → c e ≠ z))
theorem jc_getEntry (hT : Tm K N I R κ M L c) (hk : Key K N I R κ k z) : gP G yJ1_getEntry cJ1_getEntry 5 ((some (FieldType.object "java/util/TreeMap$Entry"))) 6 0 0 [vR (some M), vR (some k)] (K, N, I, R) nx (GeP (K, N, I, R) nx L c z) := by
  have hT2 := hT
  obtain ⟨⟨hM, hM3, hcmp, -⟩, ⟨ps, lo, hi, ht⟩, hE, hsort, -⟩ := hT
  refine gP.of (by decide) rfl (Nat.le_of_ble_eq_true rfl) ?_
  refine x_ls (ls2 := [some (vR (some M)), some (vR (some k)), none, none, none]) rfl ?_
  refine x_aload_n dJ1_getEntry_0 rfl ?_
  refine g_getR 2 (r := none) (ci := 16) (kf := 2) rfl (by decide) (by decide) rfl rfl q276 rfl (by first | assumption | grind) (hcmp) dJ1_getEntry_1 ?_
  refine x_ifnull_y (t := 13) dJ1_getEntry_4 (by decide) ?_
  refine x_aload_n dJ1_getEntry_13 rfl ?_
  refine g_cs1 (jc_nonNull) fJ13_requireNonNull q619 (by decide) (Nat.le_of_ble_eq_true rfl) (by omega) (by omega) dJ1_getEntry_14 (fun v h2 n2 hp => ?_)
  obtain ⟨rfl, rfl, rfl⟩ := hp
  refine x_pop dJ1_getEntry_17 rfl ?_
  refine x_aload_n dJ1_getEntry_18 rfl ?_
  refine x_castK hk q622 dJ1_getEntry_19 ?_
  refine x_astore_n dJ1_getEntry_22 (by decide) ?_
  refine x_aload_n dJ1_getEntry_23 rfl ?_
  refine g_getR 3 (r := _) (ci := 16) (kf := 3) rfl (by decide) (by decide) rfl rfl q277 rfl (by first | assumption | grind) rfl dJ1_getEntry_24 ?_
  refine x_astore_n dJ1_getEntry_27 (by decide) ?_
  refine rr_ind (W := fun t : Option Nat => gp G yJ1_getEntry cJ1_getEntry 5 ((some (FieldType.object "java/util/TreeMap$Entry"))) 6 0 0 (GeP (K, N, I, R) nx L c z) 28 [some (vR (some M)), some (vR (some k)), some (vR (some k)), some (vR t), none] [] (K, N, I, R) nx 0 0) (fun t => match t with | none => 0 | some x => hi x - lo x + 1) (fun t => (∀ f, f ∈ L → c f = z → ∃ x, t = some x ∧ lo x ≤ ps f ∧ ps f < hi x) ∧ ∀ x, t = some x → x ∈ L) ?_ (R M 3) ⟨?_, ?_⟩
  rotate_left
  · intro f hf hz
    cases hr : R M 3 with
    | none =>
      rw [ht.2.2.2.2.2.2.2.2.2.1 hr] at hf
      cases hf
    | some x =>
      have q := ht.2.2.2.2.2.2.2.2.2.2 x hr
      have q2 := ht.2.2.1 f hf
      exact ⟨x, rfl, by omega, by omega⟩
  · intro x hx
    exact (ht.2.2.2.2.2.2.2.2.2.2 x hx).1
  rintro t ⟨hin, hmem⟩ ih
  refine x_aload_n dJ1_getEntry_28 rfl ?_
  refine x_ifnull (t := 75) dJ1_getEntry_29 (by decide) (fun c_29 => ?_) (fun x_29 c_29 => ?_)
  · skip
    subst c_29
    refine x_null dJ1_getEntry_75 ?_
    refine gp_aret rfl (Or.inl ⟨_, rfl⟩) dJ1_getEntry_76 (by omega) (by omega) ?_
    refine ⟨none, rfl, rfl, rfl, Or.inr ⟨rfl, fun e he q => ?_⟩⟩
    obtain ⟨x, hx, -⟩ := hin e he q
    cases hx
  · skip
    subst c_29
    have hxm := hmem x_29 rfl
    obtain ⟨hKx, -, -, k2, hk2, hkey2⟩ := hE x_29 hxm
    have hx3 := ht.2.2.1 x_29 hxm
    have hcm := fun f hf => hT2.lt ht (a := f) (b := x_29) hf hxm
    refine x_aload_n dJ1_getEntry_32 rfl ?_
    refine x_aload_n dJ1_getEntry_33 rfl ?_
    refine g_getR 0 (r := some k2) (ci := 17) (kf := 0) rfl (by decide) (by decide) rfl rfl q894 rfl (by first | assumption | grind) (hk2) dJ1_getEntry_34 ?_
    refine x_cmpK hk hkey2 q624 (by decide) (Nat.le_of_ble_eq_true rfl) dJ1_getEntry_37 (by omega) (by omega) (fun v hv0 hv1 hv2 => ?_)
    refine x_istore dJ1_getEntry_42 (by decide) ?_
    refine x_iload dJ1_getEntry_44 rfl ?_
    refine x_if_ge (t := 57) dJ1_getEntry_46 (by decide) (by omega) (fun c_46 => ?_) (fun c_46 => ?_)
    · skip
      refine x_iload dJ1_getEntry_57 rfl ?_
      refine x_if_le (t := 70) dJ1_getEntry_59 (by decide) (by omega) (fun c_59 => ?_) (fun c_59 => ?_)
      · skip
        refine x_aload_n dJ1_getEntry_70 rfl ?_
        refine gp_aret rfl (Or.inl ⟨_, rfl⟩) dJ1_getEntry_71 (by omega) (by omega) ?_
        exact ⟨_, rfl, rfl, rfl, Or.inl ⟨x_29, hxm, by omega, rfl⟩⟩
      · skip
        refine x_aload_n dJ1_getEntry_62 rfl ?_
        refine g_getR 3 (r := _) (ci := 17) (kf := 3) rfl (by decide) (by decide) rfl rfl q899 rfl (by first | assumption | grind) rfl dJ1_getEntry_63 ?_
        refine x_astore_n dJ1_getEntry_66 (by decide) ?_
        refine x_goto (t := 72) dJ1_getEntry_67 (by decide) ?_
        refine x_goto (t := 28) dJ1_getEntry_72 (by decide) ?_
        refine x_loc (ls2 := [some (vR (some M)), some (vR (some k)), some (vR (some k)), some (vR (R x_29 3)), none]) (by repeat first | exact trivial | refine ⟨Or.inr rfl, ?_⟩ | refine ⟨Or.inl rfl, ?_⟩) ?_
        refine ih (R x_29 3) ⟨fun f hf hz => ?_, fun x hx => (ht.2.2.2.2.2.2.1 x_29 x hxm hx).1⟩ ?_
        · obtain ⟨x, hx, g1, g2⟩ := hin f hf hz
          cases hx
          have h5 := (hT2.lt ht (a := x_29) (b := f) hxm hf).1
          cases hl : R x_29 3 with
          | none => have := ht.2.2.2.2.2.1 x_29 hxm hl; omega
          | some l => have := ht.2.2.2.2.2.2.1 x_29 l hxm hl; exact ⟨l, rfl, by omega, by omega⟩
        · cases hl : R x_29 3 with
          | none => simp
          | some l => have := ht.2.2.2.2.2.2.1 x_29 l hxm hl; simp only; omega
    · skip
      refine x_aload_n dJ1_getEntry_49 rfl ?_
      refine g_getR 2 (r := _) (ci := 17) (kf := 2) rfl (by decide) (by decide) rfl rfl q898 rfl (by first | assumption | grind) rfl dJ1_getEntry_50 ?_
      refine x_astore_n dJ1_getEntry_53 (by decide) ?_
      refine x_goto (t := 72) dJ1_getEntry_54 (by decide) ?_
      refine x_goto (t := 28) dJ1_getEntry_72 (by decide) ?_
      refine x_loc (ls2 := [some (vR (some M)), some (vR (some k)), some (vR (some k)), some (vR (R x_29 2)), none]) (by repeat first | exact trivial | refine ⟨Or.inr rfl, ?_⟩ | refine ⟨Or.inl rfl, ?_⟩) ?_
      refine ih (R x_29 2) ⟨fun f hf hz => ?_, fun x hx => (ht.2.2.2.2.1 x_29 x hxm hx).1⟩ ?_
      · obtain ⟨x, hx, g1, g2⟩ := hin f hf hz
        cases hx
        have h5 := (hcm f hf).1
        cases hl : R x_29 2 with
        | none => have := ht.2.2.2.1 x_29 hxm hl; omega
        | some l => have := ht.2.2.2.2.1 x_29 l hxm hl; exact ⟨l, rfl, by omega, by omega⟩
      · cases hl : R x_29 2 with
        | none => simp
        | some l => have := ht.2.2.2.2.1 x_29 l hxm hl; simp only; omega
end KEY
