set_option maxRecDepth 100000
/-! THE MODEL's methods, 18: the fewest clues; clashes -/
theorem cnt_le {P Q : Int → Prop} {n : Int} (hn : 0 ≤ n) (h : ∀ k, 0 ≤ k → k < n → P k → Q k) : cnt P n ≤ cnt Q n := by
  obtain ⟨N, rfl⟩ : ∃ N : Nat, n = N := ⟨n.toNat, by omega⟩
  clear hn
  induction N with
  | zero => rw [show ((0 : Nat) : Int) = 0 from rfl, cnt_0, cnt_0]; omega
  | succ N ih =>
    have h1 := ih (fun k a b => h k a (by omega))
    have h2 : bi (P N) ≤ bi (Q N) := by
      by_cases e : P N
      · rw [bi_t e, bi_t (h N (by omega) (by omega) e)]; omega
      · rw [bi_f e]; have := bi_01 (Q N); omega
    rw [show ((N + 1 : Nat) : Int) = (N : Int) + 1 by omega, cnt_up P (by omega), cnt_up Q (by omega)]
    omega
theorem cnt_lt {P Q : Int → Prop} {n : Int} (h : ∀ k, 0 ≤ k → k < n → P k → Q k) {f : Int} (hf : 0 ≤ f ∧ f < n) (h1 : ¬ P f) (h2 : Q f) : cnt P n < cnt Q n := by
  obtain ⟨N, rfl⟩ : ∃ N : Nat, n = N := ⟨n.toNat, by omega⟩
  induction N with
  | zero => omega
  | succ N ih =>
    rw [show ((N + 1 : Nat) : Int) = (N : Int) + 1 by omega, cnt_up P (by omega), cnt_up Q (by omega)]
    by_cases e : f = N
    · have a1 := cnt_le (P := P) (Q := Q) (n := (N : Int)) (by omega) (fun k a b => h k a (by omega))
      rw [e] at h1 h2
      rw [bi_f h1, bi_t h2]
      omega
    · have a1 := ih (fun k a b => h k a (by omega)) (by omega)
      have a2 : bi (P N) ≤ bi (Q N) := by
        by_cases e : P N
        · rw [bi_t e, bi_t (h N (by omega) (by omega) e)]; omega
        · rw [bi_f e]; have := bi_01 (Q N); omega
      omega
theorem least_nat {P : Nat → Prop} (h : ∃ n, P n) : ∃ n, P n ∧ ∀ m, m < n → ¬ P m := by
  obtain ⟨n, hn⟩ := h
  induction n using Nat.strongRecOn with
  | _ n ih =>
    by_cases e : ∃ m, m < n ∧ P m
    · obtain ⟨m, h1, h2⟩ := e
      exact ih m h1 h2
    · exact ⟨n, hn, fun m h1 h2 => e ⟨m, h1, h2⟩⟩
/-- reached from a by n steps at most -/
def Rc (P : Int → Int → Prop) (N a : Int) : Nat → Int → Prop
  | 0, b => b = a
  | k + 1, b => Rc P N a k b ∨ ∃ c, (0 ≤ c ∧ c < N) ∧ Rc P N a k c ∧ P c b
theorem Rc_mono {P : Int → Int → Prop} {N a b : Int} {n m : Nat} (h : Rc P N a n b) (hm : n ≤ m) : Rc P N a m b := by
  induction m with
  | zero => rw [show n = 0 by omega] at h; exact h
  | succ m ih =>
    by_cases e : n = m + 1
    · rw [e] at h; exact h
    · exact Or.inl (ih (by omega))
theorem Rc_tr {P : Int → Int → Prop} {N a b : Int} {n : Nat} (h : Rc P N a n b) : ∀ (m : Nat) (c : Int), Rc P N b m c → Rc P N a (n + m) c := by
  intro m
  induction m with
  | zero => intro c q; simp only [Rc] at q; rw [q]; exact h
  | succ m ih =>
    rintro c (q | ⟨e, e1, e2, e3⟩)
    · exact Or.inl (ih c q)
    · exact Or.inr ⟨e, e1, ih e e2, e3⟩
theorem Rc_sy {P : Int → Int → Prop} {N a : Int} (hP : ∀ x y, P x y → P y x) : ∀ (n : Nat) (b : Int), (0 ≤ b ∧ b < N) → Rc P N a n b → ∃ m, Rc P N b m a := by
  intro n
  induction n with
  | zero => intro b hb q; simp only [Rc] at q; exact ⟨0, q.symm⟩
  | succ n ih =>
    rintro b hb (q | ⟨e, e1, e2, e3⟩)
    · exact ih b hb q
    · obtain ⟨m, hm⟩ := ih e e1 e2
      have h1 : Rc P N b 1 e := Or.inr ⟨b, hb, rfl, hP _ _ e3⟩
      exact ⟨1 + m, Rc_tr h1 m a hm⟩
def DistIs (P : Int → Int → Prop) (N a b : Int) (n : Nat) : Prop := Rc P N a n b ∧ ∀ m, m < n → ¬ Rc P N a m b
theorem Rc_stop {P : Int → Int → Prop} {N a : Int} {k : Nat} (h : ∀ f, (0 ≤ f ∧ f < N) → Rc P N a (k + 1) f → Rc P N a k f) : ∀ (m : Nat) (f : Int), (0 ≤ f ∧ f < N) → Rc P N a m f → Rc P N a k f := by
  intro m
  induction m with
  | zero => intro f hf q; exact Rc_mono q (Nat.zero_le _)
  | succ m ih =>
    rintro f hf (q | ⟨e, e1, e2, e3⟩)
    · exact ih f hf q
    · exact h f hf (Or.inr ⟨e, e1, ih e e1 e2, e3⟩)
theorem DistIs.le {P : Int → Int → Prop} {N a b : Int} {n : Nat} (ha : 0 ≤ a ∧ a < N) (hb : 0 ≤ b ∧ b < N) (h : DistIs P N a b n) : (n : Int) ≤ N := by
  have key : ∀ k : Nat, k < n → (k : Int) + 1 ≤ cnt (Rc P N a k) N := by
    intro k
    induction k with
    | zero =>
      intro _
      have := cnt_lt (P := fun _ => False) (Q := Rc P N a 0) (n := N) (fun _ _ _ z => z.elim) ha (fun z => z) rfl
      have h2 := cnt_in (fun _ => False) (n := N) (by omega)
      omega
    | succ k ih =>
      intro hk
      have h1 := ih (by omega)
      have h2 : ∃ f, (0 ≤ f ∧ f < N) ∧ Rc P N a (k + 1) f ∧ ¬ Rc P N a k f := by
        refine Classical.byContradiction fun z => h.2 k (by omega) ?_
        exact Rc_stop (fun f hf q => Classical.byContradiction fun w => z ⟨f, hf, q, w⟩) n b hb h.1
      obtain ⟨f, f1, f2, f3⟩ := h2
      have := cnt_lt (P := Rc P N a k) (Q := Rc P N a (k + 1)) (n := N) (fun _ _ _ z => Or.inl z) f1 f3 f2
      omega
  by_cases e : n = 0
  · omega
  · have h1 := key (n - 1) (by omega)
    have h2 := cnt_in (Rc P N a (n - 1)) (n := N) (by omega)
    omega
section MODELQ
variable {G : rr_G} {y : MethodName} {cc : ByteArray} {nL : Nat} {ret : Option FieldType} {d mc ms : Nat} {Q : List Frame → Array Value → State → State → Prop} {pc : Nat} {ls : List (Option rr_V)} {st rest : List rr_V} {I : Nat → Int → Int} {nx cu su : Nat} {F : Int → (Nat → Int → Int) → Prop}
theorem m_qv0 {idx nL' d' : Nat} {y' : MethodName} {cc' : ByteArray} {ret' : Option FieldType} (hM : mQ y' cc' nL' ret' d' [vR (some 360)] I F) (hf : rr_mv RX4 y' cc' nL' ret' 0) (hq : Cond.methodLink y.cls idx y' ∈ lw_all) (hd : d' + 1 ≤ d ∧ nL' ≤ 45) (hw : rr_wd rest ≤ 8) (dg : decode cc pc = .ok (.invokevirtual idx, 3))
    (k : ∀ z I', F z I' → rr_R G y cc nL ret d mc ms Q (pc + 3) ls (vI z :: rest) (mh I') nx cu su) (hmc : cu ≤ mc := by exact Nat.le_refl _) (hms : su ≤ ms := by exact Nat.le_refl _) : rr_R G y cc nL ret d mc ms Q pc ls (vR (some 360) :: rest) (mh I) nx cu su :=
  x_callv (As := []) (rest := rest) (C := RX4) (T := TX4) (N := 46) (ci := 2) rfl (hM G nx) hf hq rfl (by decide) rfl rfl hd.1 hd.2 hw hmc hms dg (fun r h' nx' q => by obtain ⟨z, rfl, rfl, I', rfl, hF⟩ := q; exact k z I' hF)
theorem m_qv1 {a1 : rr_V} {idx nL' d' : Nat} {y' : MethodName} {cc' : ByteArray} {ret' : Option FieldType} (hM : mQ y' cc' nL' ret' d' [vR (some 360), a1] I F) (hf : rr_mv RX4 y' cc' nL' ret' 1) (hq : Cond.methodLink y.cls idx y' ∈ lw_all) (hd : d' + 1 ≤ d ∧ nL' ≤ 45) (hw : rr_wd rest ≤ 8) (dg : decode cc pc = .ok (.invokevirtual idx, 3))
    (k : ∀ z I', F z I' → rr_R G y cc nL ret d mc ms Q (pc + 3) ls (vI z :: rest) (mh I') nx cu su) (hmc : cu ≤ mc := by exact Nat.le_refl _) (hms : su ≤ ms := by exact Nat.le_refl _) : rr_R G y cc nL ret d mc ms Q pc ls (a1 :: vR (some 360) :: rest) (mh I) nx cu su :=
  x_callv (As := [a1]) (rest := rest) (C := RX4) (T := TX4) (N := 46) (ci := 2) rfl (hM G nx) hf hq rfl (by decide) rfl rfl hd.1 hd.2 hw hmc hms dg (fun r h' nx' q => by obtain ⟨z, rfl, rfl, I', rfl, hF⟩ := q; exact k z I' hF)
theorem m_qv2 {a1 a2 : rr_V} {idx nL' d' : Nat} {y' : MethodName} {cc' : ByteArray} {ret' : Option FieldType} (hM : mQ y' cc' nL' ret' d' [vR (some 360), a1, a2] I F) (hf : rr_mv RX4 y' cc' nL' ret' 2) (hq : Cond.methodLink y.cls idx y' ∈ lw_all) (hd : d' + 1 ≤ d ∧ nL' ≤ 45) (hw : rr_wd rest ≤ 8) (dg : decode cc pc = .ok (.invokevirtual idx, 3))
    (k : ∀ z I', F z I' → rr_R G y cc nL ret d mc ms Q (pc + 3) ls (vI z :: rest) (mh I') nx cu su) (hmc : cu ≤ mc := by exact Nat.le_refl _) (hms : su ≤ ms := by exact Nat.le_refl _) : rr_R G y cc nL ret d mc ms Q pc ls (a2 :: a1 :: vR (some 360) :: rest) (mh I) nx cu su :=
  x_callv (As := [a1, a2]) (rest := rest) (C := RX4) (T := TX4) (N := 46) (ci := 2) rfl (hM G nx) hf hq rfl (by decide) rfl rfl hd.1 hd.2 hw hmc hms dg (fun r h' nx' q => by obtain ⟨z, rfl, rfl, I', rfl, hF⟩ := q; exact k z I' hF)
theorem m_qv3 {a1 a2 a3 : rr_V} {idx nL' d' : Nat} {y' : MethodName} {cc' : ByteArray} {ret' : Option FieldType} (hM : mQ y' cc' nL' ret' d' [vR (some 360), a1, a2, a3] I F) (hf : rr_mv RX4 y' cc' nL' ret' 3) (hq : Cond.methodLink y.cls idx y' ∈ lw_all) (hd : d' + 1 ≤ d ∧ nL' ≤ 45) (hw : rr_wd rest ≤ 8) (dg : decode cc pc = .ok (.invokevirtual idx, 3))
    (k : ∀ z I', F z I' → rr_R G y cc nL ret d mc ms Q (pc + 3) ls (vI z :: rest) (mh I') nx cu su) (hmc : cu ≤ mc := by exact Nat.le_refl _) (hms : su ≤ ms := by exact Nat.le_refl _) : rr_R G y cc nL ret d mc ms Q pc ls (a3 :: a2 :: a1 :: vR (some 360) :: rest) (mh I) nx cu su :=
  x_callv (As := [a1, a2, a3]) (rest := rest) (C := RX4) (T := TX4) (N := 46) (ci := 2) rfl (hM G nx) hf hq rfl (by decide) rfl rfl hd.1 hd.2 hw hmc hms dg (fun r h' nx' q => by obtain ⟨z, rfl, rfl, I', rfl, hF⟩ := q; exact k z I' hF)
end MODELQ
/-- levels up to n are laid -/
def Lv (P : Int → Int → Prop) (N a : Int) (n : Nat) (far : Int → Int) : Prop := ∀ f, 0 ≤ f → f < N → (far f = -1 ∧ ¬ Rc P N a n f) ∨ ∃ m : Nat, far f = m ∧ m ≤ n ∧ DistIs P N a f m
def FwPost (I : Nat → Int → Int) (P : Int → Int → Prop) (a b : Int) (z : Int) (I' : Nat → Int → Int) : Prop := eqx I I' [384] [] ∧ ∃ n : Nat, z = n ∧ DistIs P (I 360 4) a b n
def fr0 (I : Nat → Int → Int) (a k : Int) : Int → Int := fun j => if 0 ≤ j ∧ j < k then (if j = a then 0 else -1) else I 384 j
/-- a level, half way -/
def Lh (P : Int → Int → Prop) (N : Int) (n : Nat) (far0 far : Int → Int) (S : Int → Int → Prop) : Prop := ∀ f, 0 ≤ f → f < N → (far0 f ≠ -1 ∧ far f = far0 f) ∨ (far0 f = -1 ∧ ((far f = -1 ∧ ∀ a, (0 ≤ a ∧ a < N) → S a f → ¬ (far0 a = n ∧ P a f)) ∨ (far f = n + 1 ∧ ∃ a, (0 ≤ a ∧ a < N) ∧ far0 a = n ∧ P a f)))
theorem Lv_next {P : Int → Int → Prop} {N a : Int} {n : Nat} {far0 far : Int → Int} (h : Lv P N a n far0) (hh : Lh P N n far0 far (fun _ _ => True)) : Lv P N a (n + 1) far := by
  intro f h1 h2
  rcases hh f h1 h2 with ⟨a1, a2⟩ | ⟨a1, a2⟩
  · rcases h f h1 h2 with b | ⟨m, b1, b2, b3⟩
    · exact absurd b.1 a1
    · exact Or.inr ⟨m, by rw [a2]; exact b1, by omega, b3⟩
  · have hn : ¬ Rc P N a n f := by
      rcases h f h1 h2 with b | ⟨m, b1, b2, b3⟩
      · exact b.2
      · omega
    rcases a2 with ⟨c1, c2⟩ | ⟨c1, e, e1, e2, e3⟩
    · refine Or.inl ⟨c1, ?_⟩
      rintro (q | ⟨e, e1, e2, e3⟩)
      · exact hn q
      · rcases h e e1.1 e1.2 with b | ⟨m, b1, b2, b3⟩
        · exact b.2 e2
        · by_cases em : m = n
          · exact c2 e e1 trivial ⟨by rw [b1, em], e3⟩
          · exact hn (Rc_mono (show Rc P N a (m + 1) f from Or.inr ⟨e, e1, b3.1, e3⟩) (by omega))
    · refine Or.inr ⟨n + 1, by rw [c1]; omega, Nat.le_refl _, ?_, fun m hm q => hn (Rc_mono q (by omega))⟩
      rcases h e e1.1 e1.2 with b | ⟨m, b1, b2, b3⟩
      · omega
      · exact Or.inr ⟨e, e1, Rc_mono b3.1 b2, e3⟩
theorem c_fewest {I : Nat → Int → Int} {P : Int → Int → Int → Prop} {k a b : Int} {D : Nat} (h4 : 0 ≤ I 360 4 ∧ I 360 4 ≤ 20) (hk : k = 0 ∨ k = 1) (hce : CE I P) (ha : 0 ≤ a ∧ a < I 360 4) (hb : 0 ≤ b ∧ b < I 360 4) (hD : DistIs (P k) (I 360 4) a b D) : mQ yX4_fewest cX4_fewest 7 (some FieldType.int) 1 [vR (some 360), vI k, vI a, vI b] I (FwPost I (P k) a b) := by
  have hDl := hD.le ha hb
  have e4 : ∀ s, stA I 384 s 360 4 = I 360 4 := fun s => by rw [stA_ne I s (by decide)]
  have e382 : ∀ s, stA I 384 s 382 = I 382 := fun s => stA_ne I s (by decide)
  refine mQ.of (by decide) rfl (Nat.le_of_ble_eq_true rfl) (fun G nx => ?_)
  refine x_ls (ls2 := [some (vR (some 360)), some (vI k), some (vI a), some (vI b), none, none, none]) rfl ?_
  refine x_iconst dX4_fewest_0 ?_
  refine x_istore dX4_fewest_1 (by decide) ?_
  refine x_h (h2 := mh (stA I 384 (fr0 I a 0))) (by rw [show fr0 I a 0 = I 384 from by funext j; simp only [fr0]; rw [if_neg (by omega)], stA_self]) ?_
  refine rr_ind (W := fun q => mq G yX4_fewest cX4_fewest 7 (some FieldType.int) 1 nx _ 3 [some (vR (some 360)), some (vI k), some (vI a), some (vI b), some (vI q), none, none] [] (stA I 384 (fr0 I a q))) (fun q => (I 360 4 - q).toNat) (fun q => 0 ≤ q ∧ q ≤ I 360 4) ?_ 0 (by omega)
  intro q hq ih
  have hup : ∀ v, v = (if q = a then 0 else -1) → upA (fr0 I a q) q v = fr0 I a (q + 1) := fun v hv => by
    funext j
    simp only [upA, fr0]
    by_cases e : j = q
    · rw [if_pos e, if_pos (by omega), hv, e]
    · rw [if_neg e]
      by_cases e2 : 0 ≤ j ∧ j < q
      · rw [if_pos e2, if_pos (show 0 ≤ j ∧ j < q + 1 by omega)]
      · rw [if_neg e2, if_neg (by omega)]
  refine x_iload dX4_fewest_3 rfl ?_
  refine x_aload_n dX4_fewest_5 rfl ?_
  refine m_getI (kf := 4) 4 (by decide) rfl rfl q2119 rfl dX4_fewest_6 ?_
  rw [e4]
  refine x_icmp_ge (t := 36) dX4_fewest_9 (by decide) (by omega) (fun c_9 => ?_) (fun c_9 => ?_)
  · skip
    have hq2 : q = I 360 4 := by omega
    subst hq2
    refine x_iconst dX4_fewest_36 ?_
    refine x_istore dX4_fewest_37 (by decide) ?_
    have h0 : Lv (P k) (I 360 4) a 0 (fr0 I a (I 360 4)) := fun f h1 h2 => by
      have e : fr0 I a (I 360 4) f = if f = a then 0 else -1 := by simp only [fr0]; rw [if_pos ⟨h1, h2⟩]
      by_cases ef : f = a
      · exact Or.inr ⟨0, by rw [e, if_pos ef]; rfl, Nat.le_refl _, ef, fun m hm => by omega⟩
      · exact Or.inl ⟨by rw [e, if_neg ef], ef⟩
    generalize fr0 I a (I 360 4) = s at *
    clear ih hup hq
    refine x_loc (ls2 := [some (vR (some 360)), some (vI k), some (vI a), some (vI b), some (vI (((0 : Nat), s).1 : Int)), none, none]) (by repeat first | exact trivial | refine ⟨Or.inr rfl, ?_⟩ | refine ⟨Or.inl rfl, ?_⟩) ?_
    refine rr_ind (W := fun q : Nat × (Int → Int) => mq G yX4_fewest cX4_fewest 7 (some FieldType.int) 1 nx _ 39 [some (vR (some 360)), some (vI k), some (vI a), some (vI b), some (vI (q.1 : Int)), none, none] [] (stA I 384 q.2)) (fun q => D - q.1) (fun q => q.1 ≤ D ∧ Lv (P k) (I 360 4) a q.1 q.2) ?_ (0, s) ⟨by simp, h0⟩
    clear h0
    rintro ⟨n, s⟩ ⟨hn, hL⟩ ih
    simp only at hn hL ih
    dsimp only
    have hsb : -1 ≤ s b ∧ s b ≤ n ∧ (s b = -1 → n < D) := by
      rcases hL b hb.1 hb.2 with q | ⟨m, q1, q2, q3⟩
      · refine ⟨by omega, by omega, fun _ => ?_⟩
        rcases Nat.lt_or_ge n D with z | z
        · exact z
        · exact absurd (Rc_mono hD.1 z) q.2
      · exact ⟨by omega, by omega, fun z => by omega⟩
    refine x_aload_n dX4_fewest_39 rfl ?_
    refine m_getA (kf := 36) 36 (a := 384) (by decide) rfl rfl q2151 rfl rfl dX4_fewest_40 ?_
    refine x_iload_n dX4_fewest_43 rfl ?_
    refine m_iald (n := 20) rfl rfl (by decide) (by omega) dX4_fewest_44 ?_
    rw [stA_same]
    refine x_iconst dX4_fewest_45 ?_
    refine x_icmp_ne (t := 141) dX4_fewest_46 (by decide) (by omega) (fun c_46 => ?_) (fun c_46 => ?_)
    · skip
      refine x_aload_n dX4_fewest_141 rfl ?_
      refine m_getA (kf := 36) 36 (a := 384) (by decide) rfl rfl q2151 rfl rfl dX4_fewest_142 ?_
      refine x_iload_n dX4_fewest_145 rfl ?_
      refine m_iald (n := 20) rfl rfl (by decide) (by omega) dX4_fewest_146 ?_
      refine x_iret rfl dX4_fewest_147 (Nat.le_refl _) (Nat.le_refl _) ?_
      refine ⟨_, rfl, rfl, _, rfl, ⟨fun x h1 h2 => stA_ne I s (by simpa using h2), fun j hj => by rw [stA_ne I s (by decide)]⟩, ?_⟩
      rcases hL b hb.1 hb.2 with q | ⟨m, q1, q2, q3⟩
      · exact absurd q.1 c_46
      · exact ⟨m, by rw [stA_same]; exact q1, q3⟩
    · skip
      refine x_iconst dX4_fewest_49 ?_
      refine x_istore dX4_fewest_50 (by decide) ?_
      have hnD := hsb.2.2 (by omega)
      have hlv : ∀ f, 0 ≤ f → f < I 360 4 → -1 ≤ s f ∧ s f ≤ n := fun f h1 h2 => by
        rcases hL f h1 h2 with q | ⟨m, q1, q2, q3⟩
        · omega
        · omega
      have h0 : Lh (P k) (I 360 4) n s s (fun x f => x < 0) := fun f h1 h2 => by
        by_cases e : s f = -1
        · exact Or.inr ⟨e, Or.inl ⟨e, fun x hx z => by omega⟩⟩
        · exact Or.inl ⟨e, rfl⟩
      refine rr_ind (W := fun q : Int × (Int → Int) => mq G yX4_fewest cX4_fewest 7 (some FieldType.int) 1 nx _ 52 [some (vR (some 360)), some (vI k), some (vI a), some (vI b), some (vI (n : Int)), some (vI q.1), none] [] (stA I 384 q.2)) (fun q => (I 360 4 - q.1).toNat) (fun q => (0 ≤ q.1 ∧ q.1 ≤ I 360 4) ∧ Lh (P k) (I 360 4) n s q.2 (fun x f => x < q.1)) ?_ (0, s) ⟨by simp only; omega, h0⟩
      clear h0
      rintro ⟨u, t⟩ ⟨hu, hT⟩ ih2
      simp only at hu hT ih2
      dsimp only
      refine x_iload dX4_fewest_52 rfl ?_
      refine x_aload_n dX4_fewest_54 rfl ?_
      refine m_getI (kf := 4) 4 (by decide) rfl rfl q2119 rfl dX4_fewest_55 ?_
      rw [e4]
      refine x_icmp_ge (t := 135) dX4_fewest_58 (by decide) (by omega) (fun c_58 => ?_) (fun c_58 => ?_)
      · skip
        have hnx := Lv_next hL (far := t) (fun f h1 h2 => (hT f h1 h2).imp id (fun z => ⟨z.1, z.2.imp (fun w => ⟨w.1, fun x hx _ => w.2 x hx (by omega)⟩) id⟩))
        have hgo := ih (n + 1, t) ⟨by simp only; omega, hnx⟩ (by simp only; omega)
        refine x_iinc dX4_fewest_135 rfl (by decide) ?_
        refine x_goto (t := 39) dX4_fewest_138 (by decide) ?_
        exact x_loc (by rw [show (((n + 1, t) : Nat × (Int → Int)).1 : Int) = (n : Int) + 1 by simp only; omega]; exact (by repeat first | exact trivial | refine ⟨Or.inr rfl, ?_⟩ | refine ⟨Or.inl rfl, ?_⟩)) hgo
      · skip
        refine x_iconst dX4_fewest_61 ?_
        refine x_istore dX4_fewest_62 (by decide) ?_
        have hu2 : 0 ≤ u ∧ u < I 360 4 := by omega
        have h0 : Lh (P k) (I 360 4) n s t (fun x f => x < u ∨ (x = u ∧ f < 0)) := fun f h1 h2 => (hT f h1 h2).imp id (fun z => ⟨z.1, z.2.imp (fun w => ⟨w.1, fun x hx z => w.2 x hx (by omega)⟩) id⟩)
        refine rr_ind (W := fun q : Int × (Int → Int) => mq G yX4_fewest cX4_fewest 7 (some FieldType.int) 1 nx _ 64 [some (vR (some 360)), some (vI k), some (vI a), some (vI b), some (vI (n : Int)), some (vI u), some (vI q.1)] [] (stA I 384 q.2)) (fun q => (I 360 4 - q.1).toNat) (fun q => (0 ≤ q.1 ∧ q.1 ≤ I 360 4) ∧ Lh (P k) (I 360 4) n s q.2 (fun x f => x < u ∨ (x = u ∧ f < q.1))) ?_ (0, t) ⟨by simp only; omega, h0⟩
        clear h0 hT
        rintro ⟨v, t⟩ ⟨hv, hT⟩ ih3
        simp only at hv hT ih3
        dsimp only
        have hlt : ∀ f, 0 ≤ f → f < I 360 4 → -1 ≤ t f ∧ t f ≤ n + 1 := fun f h1 h2 => by
          have := hlv f h1 h2
          rcases hT f h1 h2 with z | ⟨z1, z2 | z2⟩
          · omega
          · omega
          · omega
        have hlu := hlt u hu2.1 hu2.2
        have hun : t u = n ↔ s u = n := by
          rcases hT u hu2.1 hu2.2 with z | ⟨z1, z2 | z2⟩
          · omega
          · omega
          · omega
        have hskip : v < I 360 4 → ¬ (s u = n ∧ t v = -1 ∧ P k u v) → mq G yX4_fewest cX4_fewest 7 (some FieldType.int) 1 nx _ 64 [some (vR (some 360)), some (vI k), some (vI a), some (vI b), some (vI (n : Int)), some (vI u), some (vI (v + 1))] [] (stA I 384 t) := fun hv1 hno => ih3 (v + 1, t) ⟨by simp only; omega, fun f h1 h2 => (hT f h1 h2).imp id (fun z => ⟨z.1, z.2.imp (fun w => ⟨w.1, fun x hx q => by
          by_cases e : x = u ∧ f = v
          · rw [e.1, e.2]
            intro r
            rw [e.2] at w
            exact hno ⟨r.1, w.1, r.2⟩
          · exact w.2 x hx (by omega)⟩) id⟩)⟩ (by simp only; omega)
        refine x_iload dX4_fewest_64 rfl ?_
        refine x_aload_n dX4_fewest_66 rfl ?_
        refine m_getI (kf := 4) 4 (by decide) rfl rfl q2119 rfl dX4_fewest_67 ?_
        rw [e4]
        refine x_icmp_ge (t := 129) dX4_fewest_70 (by decide) (by omega) (fun c_70 => ?_) (fun c_70 => ?_)
        · skip
          have hgo := ih2 (u + 1, t) ⟨by simp only; omega, fun f h1 h2 => (hT f h1 h2).imp id (fun z => ⟨z.1, z.2.imp (fun w => ⟨w.1, fun x hx q => w.2 x hx (by simp only at q; omega)⟩) id⟩)⟩ (by simp only; omega)
          refine x_iinc dX4_fewest_129 rfl (by decide) ?_
          refine x_goto (t := 52) dX4_fewest_132 (by decide) ?_
          exact x_loc (by repeat first | exact trivial | refine ⟨Or.inr rfl, ?_⟩ | refine ⟨Or.inl rfl, ?_⟩) hgo
        · skip
          have hlv2 := hlt v hv.1 (by omega)
          have hin := clueAt_in hk (show 0 ≤ u ∧ u < 20 by omega) (show 0 ≤ v ∧ v < 20 by omega)
          have hcl := hce k u v hk (by omega) (by omega)
          have hb01 := bi_01 (P k u v)
          refine x_aload_n dX4_fewest_73 rfl ?_
          refine m_getA (kf := 36) 36 (a := 384) (by decide) rfl rfl q2151 rfl rfl dX4_fewest_74 ?_
          refine x_iload dX4_fewest_77 rfl ?_
          refine m_iald (n := 20) rfl rfl (by decide) (by omega) dX4_fewest_79 ?_
          rw [stA_same]
          refine x_iload dX4_fewest_80 rfl ?_
          refine x_icmp_ne (t := 123) dX4_fewest_82 (by decide) (by omega) (fun c_82 => ?_) (fun c_82 => ?_)
          · skip
            have hgo := hskip (by omega) (fun z => c_82 (hun.mpr z.1))
            refine x_iinc dX4_fewest_123 rfl (by decide) ?_
            refine x_goto (t := 64) dX4_fewest_126 (by decide) ?_
            exact hgo
          · skip
            refine x_aload_n dX4_fewest_85 rfl ?_
            refine m_getA (kf := 36) 36 (a := 384) (by decide) rfl rfl q2151 rfl rfl dX4_fewest_86 ?_
            refine x_iload dX4_fewest_89 rfl ?_
            refine m_iald (n := 20) rfl rfl (by decide) (by omega) dX4_fewest_91 ?_
            rw [stA_same]
            refine x_iconst dX4_fewest_92 ?_
            refine x_icmp_ne (t := 123) dX4_fewest_93 (by decide) (by omega) (fun c_93 => ?_) (fun c_93 => ?_)
            · skip
              have hgo := hskip (by omega) (fun z => c_93 z.2.1)
              refine x_iinc dX4_fewest_123 rfl (by decide) ?_
              refine x_goto (t := 64) dX4_fewest_126 (by decide) ?_
              exact hgo
            · skip
              refine x_aload_n dX4_fewest_96 rfl ?_
              refine m_getA (kf := 34) 34 (a := 382) (by decide) rfl rfl q2149 rfl rfl dX4_fewest_97 ?_
              refine x_iload_n dX4_fewest_100 rfl ?_
              refine x_iload dX4_fewest_101 rfl ?_
              refine x_iload dX4_fewest_103 rfl ?_
              refine m_cs3 (c_clueAt) fX4_clueAt q2491 (by decide) (Nat.le_of_ble_eq_true rfl) dX4_fewest_105 ?_
              refine m_zald (n := 800) rfl rfl (by decide) (by omega) dX4_fewest_108 ?_
              rw [e382, hcl]
              refine x_if_eq (t := 123) dX4_fewest_109 (by decide) (by omega) (fun c_109 => ?_) (fun c_109 => ?_)
              · skip
                have hgo := hskip (by omega) (fun z => by rw [bi_t z.2.2] at c_109; omega)
                refine x_iinc dX4_fewest_123 rfl (by decide) ?_
                refine x_goto (t := 64) dX4_fewest_126 (by decide) ?_
                exact hgo
              · skip
                have hyes : P k u v := Classical.byContradiction fun z => c_109 (bi_f z)
                have hgo := ih3 (v + 1, upA t v (n + 1)) ⟨by simp only; omega, fun f h1 h2 => by
                  by_cases e : f = v
                  · subst e
                    have hsv : s f = -1 := by
                      rcases hT f h1 h2 with z | ⟨z1, z2⟩
                      · omega
                      · exact z1
                    exact Or.inr ⟨hsv, Or.inr ⟨upA_s _ _ _, u, hu2, hun.mp c_82, hyes⟩⟩
                  · simp only
                    rw [upA_n _ _ e]
                    exact (hT f h1 h2).imp id (fun z => ⟨z.1, z.2.imp (fun w => ⟨w.1, fun x hx q => w.2 x hx (by omega)⟩) id⟩)⟩ (by simp only; omega)
                refine x_aload_n dX4_fewest_112 rfl ?_
                refine m_getA (kf := 36) 36 (a := 384) (by decide) rfl rfl q2151 rfl rfl dX4_fewest_113 ?_
                refine x_iload dX4_fewest_116 rfl ?_
                refine x_iload dX4_fewest_118 rfl ?_
                refine x_iconst dX4_fewest_120 ?_
                refine x_iadd dX4_fewest_121 ?_
                refine m_iast (n := 20) rfl rfl (by decide) (by omega) dX4_fewest_122 ?_
                rw [stA_set]
                refine x_iinc dX4_fewest_123 rfl (by decide) ?_
                refine x_goto (t := 64) dX4_fewest_126 (by decide) ?_
                exact hgo
  · skip
    refine x_aload_n dX4_fewest_12 rfl ?_
    refine m_getA (kf := 36) 36 (a := 384) (by decide) rfl rfl q2151 rfl rfl dX4_fewest_13 ?_
    refine x_iload dX4_fewest_16 rfl ?_
    refine x_iload dX4_fewest_18 rfl ?_
    refine x_iload_n dX4_fewest_20 rfl ?_
    refine x_icmp_ne (t := 28) dX4_fewest_21 (by decide) (by omega) (fun c_21 => ?_) (fun c_21 => ?_)
    · skip
      refine x_iconst dX4_fewest_28 ?_
      refine m_iast (n := 20) rfl rfl (by decide) (by omega) dX4_fewest_29 ?_
      rw [stA_set, hup _ (by first | rw [if_pos c_21] | rw [if_neg c_21])]
      refine x_iinc dX4_fewest_30 rfl (by decide) ?_
      refine x_goto (t := 3) dX4_fewest_33 (by decide) ?_
      exact ih (q + 1) (by omega) (by omega)
    · skip
      refine x_iconst dX4_fewest_24 ?_
      refine x_goto (t := 29) dX4_fewest_25 (by decide) ?_
      refine m_iast (n := 20) rfl rfl (by decide) (by omega) dX4_fewest_29 ?_
      rw [stA_set, hup _ (by first | rw [if_pos c_21] | rw [if_neg c_21])]
      refine x_iinc dX4_fewest_30 rfl (by decide) ?_
      refine x_goto (t := 3) dX4_fewest_33 (by decide) ?_
      exact ih (q + 1) (by omega) (by omega)
theorem twoOf_sy {x y a b : Int} (h : twoOf x y a b) : twoOf x y b a := by unfold twoOf at *; omega
theorem CL_sy {I : Nat → Int → Int} {L : List (List Int × Int)} {k a b : Int} (h : CL I L k a b) : CL I L k b a := by
  rcases h with ⟨i, j, p, q, h1, h2, h3, h4, h5⟩ | ⟨m, h1, h2, h3⟩
  · exact Or.inl ⟨i, j, p, q, h1, h2, h3, h4, h5.imp (fun z => ⟨z.1, twoOf_sy z.2⟩) (fun z => ⟨z.1, twoOf_sy z.2⟩)⟩
  · exact Or.inr ⟨m, h1, h2, twoOf_sy h3⟩
/-- signs of a group hang together by clues -/
theorem grp_reach {I : Nat → Int → Int} {P : Int → Int → Int → Prop} {k a b : Int} (hg : GrFin I P k) (hs : SgOK I) (hP : ∀ x y, P k x y → P k y x) (ha : 0 ≤ a ∧ a < I 360 4) (hb : 0 ≤ b ∧ b < I 360 4) (sa : I 371 a = a) (sb : I 371 b = b) (he : sh k (I 383) a = sh k (I 383) b) : ∃ M, Rc (P k) (I 360 4) a M b := by
  have h1 := (hg.1 a ha.1 ha.2).2
  have h2 := (hg.1 b hb.1 hb.2).2
  rw [he] at h1
  have hc := h1.trans h2.symm
  have key := hc (fun x y => x = y ∨ ((0 ≤ x ∧ x < I 360 4) ∧ (0 ≤ y ∧ y < I 360 4) ∧ ∃ M, Rc (P k) (I 360 4) (I 371 x) M (I 371 y))) (fun x => Or.inl rfl) (fun x y q => ?_) (fun x y z q r => ?_) (fun x y q => ?_)
  · rcases key with z | ⟨-, -, M, hM⟩
    · exact ⟨0, z.symm⟩
    · rw [sa, sb] at hM
      exact ⟨M, hM⟩
  · rcases q with z | ⟨z1, z2, M, hM⟩
    · exact Or.inl z.symm
    · have := hs y z2.1 z2.2
      exact Or.inr ⟨z2, z1, Rc_sy hP M _ (by omega) hM⟩
  · rcases q with rfl | ⟨z1, z2, M, hM⟩
    · exact r
    · rcases r with rfl | ⟨w1, w2, M', hM'⟩
      · exact Or.inr ⟨z1, z2, M, hM⟩
      · exact Or.inr ⟨z1, w2, M + M', Rc_tr hM M' _ hM'⟩
  · refine Or.inr ⟨q.1, q.2.1, ?_⟩
    rcases q.2.2 with z | z
    · exact ⟨0, z.symm⟩
    · have := hs x q.1.1 q.1.2
      have hx2 : x < I 360 4 := q.1.2
      exact ⟨1, Or.inr ⟨I 371 x, by omega, rfl, z⟩⟩
def fstC (J : Nat → Int → Int) (a b : Int) : Prop := ((0 ≤ a ∧ a < b) ∧ b < J 360 4) ∧ clsh J a b ∧ ∀ x y, 0 ≤ x → x < y → y < J 360 4 → (x < a ∨ (x = a ∧ y < b)) → ¬ clsh J x y
def ClPost (I : Nat → Int → Int) (w z : Int) (I' : Nat → Int → Int) : Prop := Keep I I' ∧ ((¬ (0 ≤ w ∧ w ≤ 2) ∧ z = -1) ∨ ((0 ≤ w ∧ w ≤ 2) ∧ Laid I' ∧ (((∀ x y, 0 ≤ x → x < y → y < I' 360 4 → ¬ clsh I' x y) ∧ z = -2) ∨ ∃ a b, fstC I' a b ∧ ((w = 0 ∧ z = a) ∨ (w = 1 ∧ z = b) ∨ (w = 2 ∧ ∃ n m : Nat, z = (n : Int) + m ∧ DistIs (CL I' (lxI I') 0) (I' 360 4) a b n ∧ DistIs (CL I' (lxI I') 1) (I' 360 4) a b m)))))
theorem clsh_dist {J : Nat → Int → Int} (h : Laid J) {a b k : Int} (hk : k = 0 ∨ k = 1) (ha : 0 ≤ a ∧ a < J 360 4) (hb : 0 ≤ b ∧ b < J 360 4) (hc : clsh J a b) : ∃ D, DistIs (CL J (lxI J) k) (J 360 4) a b D := by
  apply least_nat
  rcases hk with rfl | rfl
  · refine grp_reach (P := CL J (lxI J)) h.g0 h.so (fun x y => CL_sy) ha hb hc.1 hc.2.1 ?_
    unfold sh
    rw [show 20 * 0 + a = a by omega, show 20 * 0 + b = b by omega]
    exact hc.2.2.1
  · refine grp_reach (P := CL J (lxI J)) h.g1 h.so (fun x y => CL_sy) ha hb hc.1 hc.2.1 ?_
    unfold sh
    rw [show 20 * 1 + a = 20 + a by omega, show 20 * 1 + b = 20 + b by omega]
    exact hc.2.2.2
theorem c_clash {I : Nat → Int → Int} {w : Int} (hw : i32 w) (h : MI I) : mQ yX4_clash cX4_clash 4 (some FieldType.int) 6 [vR (some 360), vI w] I (ClPost I w) := by
  have h4 := h.1.1.2.1
  refine mQ.of (by decide) rfl (Nat.le_of_ble_eq_true rfl) (fun G nx => ?_)
  refine x_ls (ls2 := [some (vR (some 360)), some (vI w), none, none]) rfl ?_
  refine x_iload_n dX4_clash_0 rfl ?_
  refine x_iconst dX4_clash_1 ?_
  refine x_iconst dX4_clash_2 ?_
  refine m_cs3 (c_in (by omega) (by omega) (by omega)) fX4_in q2299 (by decide) (Nat.le_of_ble_eq_true rfl) dX4_clash_3 ?_
  refine x_if_ne_b (t := 11) dX4_clash_6 (by decide) (fun c_6 => ?_) (fun c_6 => ?_)
  · skip
    refine x_aload_n dX4_clash_11 rfl ?_
    refine m_ew0 (c_lays h.1 h.2) fX4_lays q2398 (by decide) (Nat.le_of_ble_eq_true rfl) dX4_clash_12 (fun I2 hI2 => ?_)
    refine x_iconst dX4_clash_15 ?_
    refine x_istore_n dX4_clash_16 (by decide) ?_
    have e4 := hI2.1.2 4 (by decide)
    have hK := hI2.keep
    have hLd := hI2.2.1
    have h45 := hI2.2.2
    clear hI2
    generalize I2 = J at *
    refine rr_ind (W := fun a => mq G yX4_clash cX4_clash 4 (some FieldType.int) 6 nx _ 17 [some (vR (some 360)), some (vI w), some (vI a), none] [] J) (fun a => (J 360 4 - a).toNat) (fun a => (0 ≤ a ∧ a ≤ J 360 4) ∧ ∀ x y, 0 ≤ x → x < y → y < J 360 4 → x < a → ¬ clsh J x y) ?_ 0 ⟨by omega, fun x y h1 h2 h3 h4 => by omega⟩
    rintro a ⟨ha, hno⟩ ih
    refine x_iload_n dX4_clash_17 rfl ?_
    refine x_aload_n dX4_clash_18 rfl ?_
    refine m_getI (kf := 4) 4 (by decide) rfl rfl q2119 rfl dX4_clash_19 ?_
    refine x_icmp_ge (t := 91) dX4_clash_22 (by decide) (by omega) (fun c_22 => ?_) (fun c_22 => ?_)
    · skip
      refine x_bipush dX4_clash_91 (by decide) ?_
      refine x_iret rfl dX4_clash_93 (Nat.le_refl _) (Nat.le_refl _) ?_
      exact ⟨_, rfl, rfl, _, rfl, hK, Or.inr ⟨by omega, hLd, Or.inl ⟨fun x y h1 h2 h3 => hno x y h1 h2 h3 (by omega), rfl⟩⟩⟩
    · skip
      refine x_iload_n dX4_clash_25 rfl ?_
      refine x_iconst dX4_clash_26 ?_
      refine x_iadd dX4_clash_27 ?_
      refine x_istore_n dX4_clash_28 (by decide) ?_
      refine rr_ind (W := fun b => mq G yX4_clash cX4_clash 4 (some FieldType.int) 6 nx _ 29 [some (vR (some 360)), some (vI w), some (vI a), some (vI b)] [] J) (fun b => (J 360 4 - b).toNat) (fun b => (a < b ∧ b ≤ J 360 4) ∧ ∀ y, a < y → y < b → ¬ clsh J a y) ?_ (a + 1) ⟨by omega, fun y h1 h2 => by omega⟩
      rintro b ⟨hb, hno2⟩ ih2
      refine x_iload_n dX4_clash_29 rfl ?_
      refine x_aload_n dX4_clash_30 rfl ?_
      refine m_getI (kf := 4) 4 (by decide) rfl rfl q2119 rfl dX4_clash_31 ?_
      refine x_icmp_ge (t := 85) dX4_clash_34 (by decide) (by omega) (fun c_34 => ?_) (fun c_34 => ?_)
      · skip
        have hgo := ih (a + 1) ⟨by omega, fun x y h1 h2 h3 h4 => by
          by_cases e : x = a
          · rw [e]; rw [e] at h2; exact hno2 y h2 (by omega)
          · exact hno x y h1 h2 h3 (by omega)⟩ (by omega)
        refine x_iinc dX4_clash_85 rfl (by decide) ?_
        refine x_goto (t := 17) dX4_clash_88 (by decide) ?_
        exact x_loc (by repeat first | exact trivial | refine ⟨Or.inr rfl, ?_⟩ | refine ⟨Or.inl rfl, ?_⟩) hgo
      · skip
        refine x_aload_n dX4_clash_37 rfl ?_
        refine x_iload_n dX4_clash_38 rfl ?_
        refine x_iload_n dX4_clash_39 rfl ?_
        refine m_cv2 (c_doClash (by omega) hLd (by omega) (by omega)) fX4_doClash q2630 (by decide) (Nat.le_of_ble_eq_true rfl) dX4_clash_40 ?_
        refine x_if_eq_b (t := 79) dX4_clash_43 (by decide) (fun c_43 => ?_) (fun c_43 => ?_)
        · skip
          have hgo := ih2 (b + 1) ⟨by omega, fun y h1 h2 => by
            by_cases e : y = b
            · rw [e]; exact c_43
            · exact hno2 y h1 (by omega)⟩ (by omega)
          refine x_iinc dX4_clash_79 rfl (by decide) ?_
          refine x_goto (t := 29) dX4_clash_82 (by decide) ?_
          exact hgo
        · skip
          have hf : fstC J a b := ⟨by omega, c_43, fun x y h1 h2 h3 h4 => by
            by_cases e : x = a
            · rw [e]; rw [e] at h2; exact hno2 y h2 (by omega)
            · exact hno x y h1 h2 h3 (by omega)⟩
          refine x_iload_n dX4_clash_46 rfl ?_
          refine x_if_ne (t := 54) dX4_clash_47 (by decide) (by omega) (fun c_47 => ?_) (fun c_47 => ?_)
          · skip
            refine x_iload_n dX4_clash_54 rfl ?_
            refine x_iconst dX4_clash_55 ?_
            refine x_icmp_ne (t := 63) dX4_clash_56 (by decide) (by omega) (fun c_56 => ?_) (fun c_56 => ?_)
            · skip
              refine x_aload_n dX4_clash_63 rfl ?_
              refine x_iconst dX4_clash_64 ?_
              refine x_iload_n dX4_clash_65 rfl ?_
              refine x_iload_n dX4_clash_66 rfl ?_
              obtain ⟨D0, hD0⟩ := clsh_dist hLd (Or.inl rfl) (show 0 ≤ a ∧ a < J 360 4 by omega) (show 0 ≤ b ∧ b < J 360 4 by omega) c_43
              obtain ⟨D1, hD1⟩ := clsh_dist hLd (Or.inr rfl) (show 0 ≤ a ∧ a < J 360 4 by omega) (show 0 ≤ b ∧ b < J 360 4 by omega) c_43
              refine m_qv3 (c_fewest (P := CL J (lxI J)) (by omega) (Or.inl rfl) hLd.ce (by omega) (by omega) hD0) fX4_fewest q2634 (by decide) (Nat.le_of_ble_eq_true rfl) dX4_clash_67 (fun z1 J1 hJ1 => ?_)
              have e41 := hJ1.1.2 4 (by decide)
              refine x_aload_n dX4_clash_70 rfl ?_
              refine x_iconst dX4_clash_71 ?_
              refine x_iload_n dX4_clash_72 rfl ?_
              refine x_iload_n dX4_clash_73 rfl ?_
              refine m_qv3 (c_fewest (I := J1) (P := CL J (lxI J)) (by omega) (Or.inr rfl) (CE_eqx hLd.ce (hJ1.1.1 382 (by decide) (by decide))) (by omega) (by omega) (by rw [e41]; exact hD1)) fX4_fewest q2634 (by decide) (Nat.le_of_ble_eq_true rfl) dX4_clash_74 (fun z2 J2 hJ2 => ?_)
              refine x_iadd dX4_clash_77 ?_
              refine x_iret rfl dX4_clash_78 (Nat.le_refl _) (Nat.le_refl _) ?_
              have e02 : eqx J J2 [384] [] := hJ1.1.tr hJ2.1
              have hLd2 : Laid J2 := Laid_eqx hLd e02 (by decide) (by decide)
              have e42 := e02.2 4 (by decide)
              have hlx : lxI J2 = lxI J := by
                have hR : m_rows J2 = m_rows J := m_rows_eq (e02.1 364 (by decide) (by decide)) (e02.1 365 (by decide) (by decide)) (e02.1 366 (by decide) (by decide)) (e02.1 369 (by decide) (by decide)) (e02.1 371 (by decide) (by decide)) (e02.2 8 (by decide))
                unfold lxI wsI
                rw [hR, e02.1 369 (by decide) (by decide)]
              have hCL : CL J2 (lxI J2) = CL J (lxI J) := by rw [hlx]; exact CL_eq _ (e02.1 369 (by decide) (by decide)) (e02.1 371 (by decide) (by decide))
              have hcs : clsh J2 = clsh J := by funext x y; unfold clsh; rw [e02.1 371 (by decide) (by decide), e02.1 383 (by decide) (by decide)]
              obtain ⟨n, hn, hn2⟩ := hJ1.2
              obtain ⟨m, hm, hm2⟩ := hJ2.2
              rw [e41] at hm2
              refine ⟨_, rfl, rfl, _, rfl, ⟨hK.1.tr (e02.mono (by decide) (by decide)), Or.inr ⟨by rw [e02.2 45 (by decide)]; exact h45, hLd2⟩⟩, Or.inr ⟨by omega, hLd2, Or.inr ⟨a, b, ?_, Or.inr (Or.inr ⟨by omega, n, m, by rw [hn, hm], ?_, ?_⟩)⟩⟩⟩
              · unfold fstC
                rw [hcs, e42]
                exact hf
              · rw [hCL, e42]; exact hn2
              · rw [hCL, e42]; exact hm2
            · skip
              refine x_iload_n dX4_clash_59 rfl ?_
              refine x_goto (t := 78) dX4_clash_60 (by decide) ?_
              refine x_iret rfl dX4_clash_78 (Nat.le_refl _) (Nat.le_refl _) ?_
              exact ⟨_, rfl, rfl, _, rfl, hK, Or.inr ⟨by omega, hLd, Or.inr ⟨a, b, hf, Or.inr (Or.inl ⟨c_56, rfl⟩)⟩⟩⟩
          · skip
            refine x_iload_n dX4_clash_50 rfl ?_
            refine x_goto (t := 78) dX4_clash_51 (by decide) ?_
            refine x_iret rfl dX4_clash_78 (Nat.le_refl _) (Nat.le_refl _) ?_
            exact ⟨_, rfl, rfl, _, rfl, hK, Or.inr ⟨by omega, hLd, Or.inr ⟨a, b, hf, Or.inl ⟨c_47, rfl⟩⟩⟩⟩
  · skip
    refine x_iconst dX4_clash_9 ?_
    refine x_iret rfl dX4_clash_10 (Nat.le_refl _) (Nat.le_refl _) ?_
    exact ⟨_, rfl, rfl, _, rfl, Keep.rf h.2, Or.inl ⟨by omega, rfl⟩⟩
