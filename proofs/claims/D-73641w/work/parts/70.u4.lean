/-! SYSTEM 4: laysSigns -/
set_option maxRecDepth 100000
section UF
variable {G : rr_G} {nx : Nat} {K N : Nat → Nat} {I I1 I2 : Nat → Int → Int} {R : Nat → Int → Option Nat} {T : Nat} {r : Int → Int → Prop} {n : Int} {o : Nat} {Pr Pr' : Int → Int → Prop}
theorem Ss.u (hs : Ss K N R) {a : Int} (ha : 0 ≤ a ∧ a < 20) : R 310 a = some (311 + a.toNat) ∧ K (311 + a.toNat) = 64 ∧ N (311 + a.toNat) = 20 := by
  have e1 : sK (311 + a.toNat) = 64 := by
    unfold sK
    rw [if_neg (by omega), if_neg (by omega), if_neg (by omega), if_pos (by omega)]
  have e2 : sN (311 + a.toNat) = 20 := by
    unfold sN
    rw [if_neg (by omega), if_neg (by omega), if_neg (by omega), if_neg (by omega)]
  exact ⟨hs.2.2.1 a ha.1 ha.2, hs.k _ ⟨e1, by decide⟩, hs.n _ ⟨e2, by omega, by omega⟩⟩
theorem Td.ne (ht : Td K N R T) (i : Nat) (hi : i < 7) {x : Nat} (hx : 309 ≤ x ∧ x ≤ 360 ∨ x = 300 ∨ x = 301) : T + i ≠ x := by
  have := ht.2.2.2
  have := ht.1.2
  omega
def slk (I : Nat → Int → Int) (T : Nat) (x y : Int) : Prop := tb (I (T + 3) x) y ∨ (I (311 + x.toNat) y ≤ I T 3 ∧ ¬ tb (I (T + 4) x) y)
theorem jc_laysSigns (hs : Ss K N R) (ht : Td K N R T) (hf : 0 ≤ I T 0 ∧ I T 0 ≤ 20) (hlo : 0 ≤ I T 3 ∧ I T 3 ≤ 25) (hun : ∀ x y, 0 ≤ x → x < I T 0 → 0 ≤ y → y < I T 0 → 0 ≤ I (311 + x.toNat) y ∧ I (311 + x.toNat) y ≤ 25) (hr : ∀ x y, 0 ≤ x → x < y → y < I T 0 → (slk I T x y ↔ r x y)) (hsy : ∀ x y, 0 ≤ x → x < I T 0 → 0 ≤ y → y < I T 0 → r x y → r y x) : gW G yX0_laysSigns cX0_laysSigns 3 (none) 22 0 0 [vR (some 300)] (K, N, I, R) nx (gI K N R nx (ClP r (I T 0) 332 I)) := by
  have hK2 := hs.k 332 (k := 64) (by decide)
  have hn332 : N 332 = 20 := hs.n 332 (by decide)
  have hn310 : N 310 = 20 := hs.n 310 (by decide)
  have hnT3 : N (T + 3) = 20 := ht.n 3 (by decide)
  have hnT4 : N (T + 4) = 20 := ht.n 4 (by decide)
  have hTo : T ≠ 332 := by have := ht.ne 0 (by decide) (x := 332) (by decide); omega
  have hT3 : T + 3 ≠ 332 := ht.ne 3 (by decide) (by decide)
  have hT4 : T + 4 ≠ 332 := ht.ne 4 (by decide) (by decide)
  refine gW.of (by decide) rfl (Nat.le_of_ble_eq_true rfl) ?_
  refine x_ls (ls2 := [some (vR (some 300)), none, none]) rfl ?_
  refine x_aload_n dX0_laysSigns_0 rfl ?_
  refine g_getR 8 (r := some 332) (ci := 1) (kf := 8) rfl (by decide) (by decide) rfl rfl q1316 rfl (hs.k 300 (by decide)) (hs.r 8 (by decide)) dX0_laysSigns_1 ?_
  refine g_ct1 (jc_parts hK2 hn332 (by decide)) fX0_parts q315 (by decide) (Nat.le_of_ble_eq_true rfl) (by omega) (by omega) dX0_laysSigns_4 (fun h2 n2 hp => ?_)
  obtain ⟨rfl, I0, rfl, hI0⟩ := hp
  refine x_iconst dX0_laysSigns_7 ?_
  refine x_istore_n dX0_laysSigns_8 (by decide) ?_
  refine x_ls (ls2 := [some (vR (some 300)), some (vI 0), none]) rfl ?_
  have fin : ∀ I1, UfI r (I T 0) I 332 (fun x y => x < y ∧ y < I T 0) I1 → ∀ z3 z, gw G yX0_laysSigns cX0_laysSigns 3 (none) 22 0 0 (gI K N R nx (ClP r (I T 0) 332 I)) 107 [some (vR (some 300)), z3, z] [] (K, N, I1, R) nx 0 0 := by
    intro I0 hI0 z3 z
    refine x_iconst dX0_laysSigns_107 ?_
    refine x_istore_n dX0_laysSigns_108 (by decide) ?_
    refine x_ls (ls2 := [some (vR (some 300)), some (vI 0), z]) rfl ?_
    refine s_for (W := fun (q : Int) (I1 : Nat → Int → Int) => gw G yX0_laysSigns cX0_laysSigns 3 (none) 22 0 0 (gI K N R nx (ClP r (I T 0) 332 I)) 109 [some (vR (some 300)), some (vI q), z] [] (K, N, I1, R) nx 0 0) (fun q I1 => UfC I0 332 q I1) 0 20 I0 (by omega) ⟨fun _ _ => rfl, hI0.2.1, fun _ _ _ => rfl, fun k h1 h2 => by omega⟩ ?_
    intro q I1 h0 hq hu ih
    refine x_iload_n dX0_laysSigns_109 rfl ?_
    refine x_bipush dX0_laysSigns_110 (by decide) ?_
    refine x_icmp_ge (t := 135) dX0_laysSigns_112 (by decide) (by omega) (fun c_112 => ?_) (fun c_112 => ?_)
    · skip
      refine gw_vret rfl dX0_laysSigns_135 (by omega) (by omega) ?_
      exact ⟨rfl, I1, rfl, UfC.done hf.2 hI0 hsy (fun x y x1 x2 y1 y2 _ => by omega) (by rw [show (20 : Int) = q by omega]; exact hu)⟩
    · skip
      refine x_aload_n dX0_laysSigns_115 rfl ?_
      refine g_getR 8 (r := some 332) (ci := 1) (kf := 8) rfl (by decide) (by decide) rfl rfl q1316 rfl (hs.k 300 (by decide)) (hs.r 8 (by decide)) dX0_laysSigns_116 ?_
      refine x_iload_n dX0_laysSigns_119 rfl ?_
      refine x_aload_n dX0_laysSigns_120 rfl ?_
      refine g_getR 8 (r := some 332) (ci := 1) (kf := 8) rfl (by decide) (by decide) rfl rfl q1316 rfl (hs.k 300 (by decide)) (hs.r 8 (by decide)) dX0_laysSigns_121 ?_
      refine x_iload_n dX0_laysSigns_124 rfl ?_
      refine g_cs2 (jc_root hK2 hn332 hu.2.1 20 q (by omega) (by omega) (by omega)) fX0_root q324 (by decide) (Nat.le_of_ble_eq_true rfl) (by omega) (by omega) dX0_laysSigns_125 (fun v h2 n2 hp => ?_)
      obtain ⟨rfl, rfl, rfl⟩ := hp
      refine g_iast (hs.k 332 (by decide)) (by decide) rfl (by omega) dX0_laysSigns_128 ?_
      refine x_iinc dX0_laysSigns_129 rfl (by decide) ?_
      refine x_goto (t := 109) dX0_laysSigns_132 (by decide) ?_
      exact ih _ (by omega) (hu.step (by omega))
  refine s_for (W := fun (q : Int) (s : (Nat → Int → Int) × Option rr_V) => gw G yX0_laysSigns cX0_laysSigns 3 (none) 22 0 0 (gI K N R nx (ClP r (I T 0) 332 I)) 9 [some (vR (some 300)), some (vI q), s.2] [] (K, N, s.1, R) nx 0 0) (fun q s => UfI r (I T 0) I 332 (fun x y => x < y ∧ x < q) s.1) 0 (I T 0) (I0, none) (by omega) (UfI.zero hI0 hf.2 (fun _ _ _ _ _ _ => by omega)) ?_
  rintro q ⟨I1, z⟩ h0 hq hu ih
  simp only at hu ih ⊢
  have hT1 : I1 T = I T := hu.1 T hTo
  refine x_iload_n dX0_laysSigns_9 rfl ?_
  refine x_aload_n dX0_laysSigns_10 rfl ?_
  refine g_getR 2 (r := some T) (ci := 1) (kf := 2) rfl (by decide) (by decide) rfl rfl q1307 rfl (hs.k 300 (by decide)) (ht.t) dX0_laysSigns_11 ?_
  refine g_getIN 0 (ci := 3) (kf := 0) rfl (by decide) (by decide) rfl rfl q210 rfl (ht.k) dX0_laysSigns_14 ?_
  rw [hT1]
  refine x_icmp_ge (t := 107) dX0_laysSigns_17 (by decide) (by omega) (fun c_17 => ?_) (fun c_17 => ?_)
  · skip
    exact fin I1 (hu.no (fun x y _ _ _ _ _ h => ⟨h.1, by omega⟩)) _ _
  · skip
    refine x_iload_n dX0_laysSigns_20 rfl ?_
    refine x_iconst dX0_laysSigns_21 ?_
    refine x_iadd dX0_laysSigns_22 ?_
    refine x_istore_n dX0_laysSigns_23 (by decide) ?_
    refine x_ls (ls2 := [some (vR (some 300)), some (vI q), some (vI (q + 1))]) rfl ?_
    refine s_for (W := fun (p : Int) (I1 : Nat → Int → Int) => gw G yX0_laysSigns cX0_laysSigns 3 (none) 22 0 0 (gI K N R nx (ClP r (I T 0) 332 I)) 24 [some (vR (some 300)), some (vI q), some (vI p)] [] (K, N, I1, R) nx 0 0) (fun p I1 => UfI r (I T 0) I 332 (fun x y => x < y ∧ (x < q ∨ x = q ∧ y < p)) I1) (q + 1) (I T 0) I1 (by omega) (hu.no (fun x y _ _ _ _ _ h => by omega)) ?_
    clear hT1 hu
    intro p I1 hp0 hpq hu ih2
    have hT1 : I1 T = I T := hu.1 T hTo
    have hb3 : I1 (T + 3) = I (T + 3) := hu.1 _ hT3
    have hb4 : I1 (T + 4) = I (T + 4) := hu.1 _ hT4
    obtain ⟨hu1, hu2, hu3⟩ := hs.u (a := q) (by omega)
    have hbu : I1 (311 + q.toNat) = I (311 + q.toNat) := hu.1 _ (by omega)
    have hrq := hr q p (by omega) (by omega)
    have hno : p < I T 0 → ¬ slk I T q p → UfI r (I T 0) I 332 (fun x y => x < y ∧ (x < q ∨ x = q ∧ y < p + 1)) I1 := fun hp1 hn => hu.no (fun x y _ _ _ _ hxy h => by
      rcases Decidable.em (x = q ∧ y = p) with ⟨rfl, rfl⟩ | e
      · exact absurd ((hrq hp1).mpr hxy) hn
      · omega)
    have hyes : p < I T 0 → slk I T q p → UfI r (I T 0) I 332 (fun x y => x < y ∧ (x < q ∨ x = q ∧ y < p + 1)) (rr_u2 I1 332 (max (rt (I1 332) q) (rt (I1 332) p)) (min (rt (I1 332) q) (rt (I1 332) p))) := fun hp1 hn => hu.yes hf.2 (by omega) (by omega) ((hrq hp1).mp hn) (fun x y _ _ _ _ _ h => by omega)
    refine x_iload_n dX0_laysSigns_24 rfl ?_
    refine x_aload_n dX0_laysSigns_25 rfl ?_
    refine g_getR 2 (r := some T) (ci := 1) (kf := 2) rfl (by decide) (by decide) rfl rfl q1307 rfl (hs.k 300 (by decide)) (ht.t) dX0_laysSigns_26 ?_
    refine g_getIN 0 (ci := 3) (kf := 0) rfl (by decide) (by decide) rfl rfl q210 rfl (ht.k) dX0_laysSigns_29 ?_
    rw [hT1]
    refine x_icmp_ge (t := 101) dX0_laysSigns_32 (by decide) (by omega) (fun c_32 => ?_) (fun c_32 => ?_)
    · skip
      refine x_iinc dX0_laysSigns_101 rfl (by decide) ?_
      refine x_goto (t := 9) dX0_laysSigns_104 (by decide) ?_
      exact ih (_, _) (by omega) (hu.no (fun x y _ _ _ _ _ h => by omega))
    · skip
      refine x_aload_n dX0_laysSigns_35 rfl ?_
      refine g_getR 2 (r := some T) (ci := 1) (kf := 2) rfl (by decide) (by decide) rfl rfl q1307 rfl (hs.k 300 (by decide)) (ht.t) dX0_laysSigns_36 ?_
      refine g_getRN 8 (r := some (T + 3)) (ci := 3) (kf := 8) rfl (by decide) (by decide) rfl rfl q225 rfl (ht.k) (ht.r 8 (by decide)) dX0_laysSigns_39 ?_
      refine x_iload_n dX0_laysSigns_42 rfl ?_
      refine g_iald (ht.a 3 (by decide)) rfl (by omega) dX0_laysSigns_43 ?_
      rw [hb3]
      refine x_iload_n dX0_laysSigns_44 rfl ?_
      refine g_cs2 (jc_has (by omega)) fX0_has q318 (by decide) (Nat.le_of_ble_eq_true rfl) (by omega) (by omega) dX0_laysSigns_45 (fun v h2 n2 hp => ?_)
      obtain ⟨rfl, rfl, rfl⟩ := hp
      refine x_if_ne_b (t := 85) dX0_laysSigns_48 (by decide) (fun c_48 => ?_) (fun c_48 => ?_)
      · skip
        refine x_aload_n dX0_laysSigns_85 rfl ?_
        refine g_getR 8 (r := some 332) (ci := 1) (kf := 8) rfl (by decide) (by decide) rfl rfl q1316 rfl (hs.k 300 (by decide)) (hs.r 8 (by decide)) dX0_laysSigns_86 ?_
        refine x_iload_n dX0_laysSigns_89 rfl ?_
        refine x_iload_n dX0_laysSigns_90 rfl ?_
        refine g_cs3 (jc_joins hK2 hn332 (by decide) hu.2.1 (by omega) (by omega)) fX0_joins q321 (by decide) (Nat.le_of_ble_eq_true rfl) (by omega) (by omega) dX0_laysSigns_91 (fun v h2 n2 hp => ?_)
        obtain ⟨rfl, rfl, rfl⟩ := hp
        refine x_pop dX0_laysSigns_94 rfl ?_
        refine x_iinc dX0_laysSigns_95 rfl (by decide) ?_
        refine x_goto (t := 24) dX0_laysSigns_98 (by decide) ?_
        exact ih2 _ (by omega) (hyes (by omega) (Or.inl c_48))
      · skip
        refine x_aload_n dX0_laysSigns_51 rfl ?_
        refine g_getR 5 (r := some 310) (ci := 1) (kf := 5) rfl (by decide) (by decide) rfl rfl q1313 rfl (hs.k 300 (by decide)) (hs.r 5 (by decide)) dX0_laysSigns_52 ?_
        refine x_iload_n dX0_laysSigns_55 rfl ?_
        refine g_aald (t := 10) (r := some (311 + q.toNat)) rfl rfl rfl (hs.k 310 (by decide)) rfl (by omega) (hu1) dX0_laysSigns_56 ?_
        refine x_iload_n dX0_laysSigns_57 rfl ?_
        refine g_iald (hu2) rfl (by omega) dX0_laysSigns_58 ?_
        refine x_aload_n dX0_laysSigns_59 rfl ?_
        refine g_getR 2 (r := some T) (ci := 1) (kf := 2) rfl (by decide) (by decide) rfl rfl q1307 rfl (hs.k 300 (by decide)) (ht.t) dX0_laysSigns_60 ?_
        refine g_getIN 3 (ci := 3) (kf := 3) rfl (by decide) (by decide) rfl rfl q214 rfl (ht.k) dX0_laysSigns_63 ?_
        rw [hT1, hbu]
        have hu4 := hun q p (by omega) (by omega) (by omega) (by omega)
        refine x_icmp_gt (t := 95) dX0_laysSigns_66 (by decide) (by omega) (fun c_66 => ?_) (fun c_66 => ?_)
        · skip
          refine x_iinc dX0_laysSigns_95 rfl (by decide) ?_
          refine x_goto (t := 24) dX0_laysSigns_98 (by decide) ?_
          exact ih2 _ (by omega) (hno (by omega) (by rintro (h | h); exact c_48 h; omega))
        · skip
          refine x_aload_n dX0_laysSigns_69 rfl ?_
          refine g_getR 2 (r := some T) (ci := 1) (kf := 2) rfl (by decide) (by decide) rfl rfl q1307 rfl (hs.k 300 (by decide)) (ht.t) dX0_laysSigns_70 ?_
          refine g_getRN 9 (r := some (T + 4)) (ci := 3) (kf := 9) rfl (by decide) (by decide) rfl rfl q227 rfl (ht.k) (ht.r 9 (by decide)) dX0_laysSigns_73 ?_
          refine x_iload_n dX0_laysSigns_76 rfl ?_
          refine g_iald (ht.a 4 (by decide)) rfl (by omega) dX0_laysSigns_77 ?_
          rw [hb4]
          refine x_iload_n dX0_laysSigns_78 rfl ?_
          refine g_cs2 (jc_has (by omega)) fX0_has q318 (by decide) (Nat.le_of_ble_eq_true rfl) (by omega) (by omega) dX0_laysSigns_79 (fun v h2 n2 hp => ?_)
          obtain ⟨rfl, rfl, rfl⟩ := hp
          refine x_if_ne_b (t := 95) dX0_laysSigns_82 (by decide) (fun c_82 => ?_) (fun c_82 => ?_)
          · skip
            refine x_iinc dX0_laysSigns_95 rfl (by decide) ?_
            refine x_goto (t := 24) dX0_laysSigns_98 (by decide) ?_
            exact ih2 _ (by omega) (hno (by omega) (by rintro (h | h); exact c_48 h; exact h.2 c_82))
          · skip
            refine x_aload_n dX0_laysSigns_85 rfl ?_
            refine g_getR 8 (r := some 332) (ci := 1) (kf := 8) rfl (by decide) (by decide) rfl rfl q1316 rfl (hs.k 300 (by decide)) (hs.r 8 (by decide)) dX0_laysSigns_86 ?_
            refine x_iload_n dX0_laysSigns_89 rfl ?_
            refine x_iload_n dX0_laysSigns_90 rfl ?_
            refine g_cs3 (jc_joins hK2 hn332 (by decide) hu.2.1 (by omega) (by omega)) fX0_joins q321 (by decide) (Nat.le_of_ble_eq_true rfl) (by omega) (by omega) dX0_laysSigns_91 (fun v h2 n2 hp => ?_)
            obtain ⟨rfl, rfl, rfl⟩ := hp
            refine x_pop dX0_laysSigns_94 rfl ?_
            refine x_iinc dX0_laysSigns_95 rfl (by decide) ?_
            refine x_goto (t := 24) dX0_laysSigns_98 (by decide) ?_
            exact ih2 _ (by omega) (hyes (by omega) (Or.inr ⟨by omega, c_82⟩))
end UF
