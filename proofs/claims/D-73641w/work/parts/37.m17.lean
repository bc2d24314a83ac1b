set_option maxRecDepth 100000
/-! THE MODEL's methods, 17: switches; what is known is asked -/
section SWITCH
variable {G : rr_G} {y : MethodName} {cc : ByteArray} {nL : Nat} {ret : Option FieldType} {d mc ms : Nat} {Q : List Frame → Array Value → State → State → Prop} {pc : Nat} {ls : List (Option rr_V)} {st : List rr_V} {h : rr_H} {nx cu su : Nat}
theorem rr_ti {a : Int} (h : -2147483648 ≤ a ∧ a < 2147483648) : (Int32.ofInt a).toInt = a := by
  rw [Int32.toInt_ofInt_of_le (by omega) (by omega)]
theorem x_tswi {a dflt lo hi off : Int} {offs : Array Int} {len t : Nat} (dg : decode cc pc = .ok (.tableswitch dflt lo hi offs, len)) (h1 : lo ≤ a ∧ a ≤ hi) (ha : -2147483648 ≤ a ∧ a < 2147483648) (ho : offs[(a - lo).toNat]? = some off) (ht : (pc : Int) + off = (t : Int)) (k : rr_R G y cc nL ret d mc ms Q t ls st h nx cu su) : rr_R G y cc nL ret d mc ms Q pc ls (vI a :: st) h nx cu su := by
  intro p e s m args below meth c H locs la hC hr hS hL
  exact lv_tableIn hC.1 hC.2.1 dg (by rw [rr_ti ha]; omega) (by rw [rr_ti ha]; omega) (by rw [rr_ti ha]; exact ho) ht (k p e s m args below meth c H locs la hC hr hS hL)
theorem x_tsw {a dflt lo hi : Int} {offs : Array Int} {len t : Nat} (dg : decode cc pc = .ok (.tableswitch dflt lo hi offs, len)) (ht : (pc : Int) + dflt = (t : Int)) (ha : -2147483648 ≤ a ∧ a < 2147483648) (ki : ∀ v, (lo ≤ v ∧ v ≤ hi) → a = v → rr_R G y cc nL ret d mc ms Q pc ls (vI v :: st) h nx cu su) (ko : (a < lo ∨ hi < a) → rr_R G y cc nL ret d mc ms Q t ls st h nx cu su) : rr_R G y cc nL ret d mc ms Q pc ls (vI a :: st) h nx cu su := by
  by_cases q : lo ≤ a ∧ a ≤ hi
  · exact ki a q rfl
  · intro p e s m args below meth c H locs la hC hr hS hL
    exact lv_tableOut hC.1 hC.2.1 dg (by rw [rr_ti ha]; omega) ht (ko (by omega) p e s m args below meth c H locs la hC hr hS hL)
end SWITCH
theorem lsV_in (Q : Int → Prop) (v : Int → Int) {lo hi : Int} (h : ∀ k, lo ≤ k → k < hi → Q k → 0 ≤ v k ∧ v k < 10) : -1 ≤ lsV Q v lo hi ∧ lsV Q v lo hi < 10 := by
  have key : ∀ (n : Nat) (lo : Int), (∀ k, lo ≤ k → k < lo + (n : Int) → Q k → 0 ≤ v k ∧ v k < 10) → -1 ≤ lsN Q v n lo ∧ lsN Q v n lo < 10 := by
    intro n
    induction n with
    | zero => intro lo _; simp [lsN]
    | succ n ih =>
      intro lo h
      have h2 := ih (lo + 1) (fun k a b c => h k (by omega) (by omega) c)
      simp only [lsN]
      split
      · rename_i q
        have := h lo (by omega) (by omega) q
        omega
      · exact h2
  exact key _ lo (fun k a b c => h k a (by omega) c)
def KnIn (J : Nat → Int → Int) : Prop := ∀ k f, (k = 0 ∨ k = 1) → 0 ≤ f → f < J 360 4 → -1 ≤ J 385 (20 * k + f) ∧ J 385 (20 * k + f) < 10
theorem Laid.ki {J : Nat → Int → Int} (h : Laid J) (hg : GsOK J) (h4 : J 360 4 ≤ 20) : KnIn J := fun k f hk h1 h2 => by
  rw [h.kn k f hk h1 h2]
  refine lsV_in _ _ (fun g g1 g2 q => ?_)
  have h3 := hg g g1 (by omega)
  have h5 := q.1
  exact partOf_in (by omega)
def whl (J : Nat → Int → Int) (f : Int) : Prop := J 385 f ≠ -1 ∧ J 385 (20 + f) ≠ -1
theorem KnIn.at {J : Nat → Int → Int} (h : KnIn J) {f : Int} (hf : 0 ≤ f ∧ f < J 360 4) : (-1 ≤ J 385 f ∧ J 385 f < 10) ∧ -1 ≤ J 385 (20 + f) ∧ J 385 (20 + f) < 10 := by
  have h0 := h 0 f (Or.inl rfl) hf.1 hf.2
  have h1 := h 1 f (Or.inr rfl) hf.1 hf.2
  rw [show 20 * 0 + f = f by omega] at h0
  rw [show 20 * 1 + f = 20 + f by omega] at h1
  exact ⟨h0, h1⟩
theorem c_isWhole {I : Nat → Int → Int} {f : Int} (h4 : I 360 4 ≤ 20) (hk : KnIn I) (hf : 0 ≤ f ∧ f < I 360 4) : mC yX4_isWhole cX4_isWhole 2 (some FieldType.boolean) 0 [vR (some 360), vI f] I (some (vI (bi (whl I f)))) I := by
  have h1 := hk.at hf
  refine mC.of (by decide) rfl (Nat.le_of_ble_eq_true rfl) (fun G nx => ?_)
  refine x_ls (ls2 := [some (vR (some 360)), some (vI f)]) rfl ?_
  refine x_aload_n dX4_isWhole_0 rfl ?_
  refine m_getA (kf := 37) 37 (a := 385) (by decide) rfl rfl q2152 rfl rfl dX4_isWhole_1 ?_
  refine x_iload_n dX4_isWhole_4 rfl ?_
  refine m_iald (n := 40) rfl rfl (by decide) (by omega) dX4_isWhole_5 ?_
  refine x_iconst dX4_isWhole_6 ?_
  refine x_icmp_eq (t := 27) dX4_isWhole_7 (by decide) (by omega) (fun c_7 => ?_) (fun c_7 => ?_)
  · skip
    refine x_iconst dX4_isWhole_27 ?_
    refine x_zret rfl dX4_isWhole_28 (by first | exact Or.inl rfl | exact Or.inr rfl | exact bi_01 _ | omega) (Nat.le_refl _) (Nat.le_refl _) ?_
    exact ⟨by first | exact rT ⟨c_7, c_20⟩ | exact rF (fun z => z.1 c_7) | exact rF (fun z => z.2 c_20), rfl, rfl⟩
  · skip
    refine x_aload_n dX4_isWhole_10 rfl ?_
    refine m_getA (kf := 37) 37 (a := 385) (by decide) rfl rfl q2152 rfl rfl dX4_isWhole_11 ?_
    refine x_bipush dX4_isWhole_14 (by decide) ?_
    refine x_iload_n dX4_isWhole_16 rfl ?_
    refine x_iadd dX4_isWhole_17 ?_
    refine m_iald (n := 40) rfl rfl (by decide) (by omega) dX4_isWhole_18 ?_
    refine x_iconst dX4_isWhole_19 ?_
    refine x_icmp_eq (t := 27) dX4_isWhole_20 (by decide) (by omega) (fun c_20 => ?_) (fun c_20 => ?_)
    · skip
      refine x_iconst dX4_isWhole_27 ?_
      refine x_zret rfl dX4_isWhole_28 (by first | exact Or.inl rfl | exact Or.inr rfl | exact bi_01 _ | omega) (Nat.le_refl _) (Nat.le_refl _) ?_
      exact ⟨by first | exact rT ⟨c_7, c_20⟩ | exact rF (fun z => z.1 c_7) | exact rF (fun z => z.2 c_20), rfl, rfl⟩
    · skip
      refine x_iconst dX4_isWhole_23 ?_
      refine x_goto (t := 28) dX4_isWhole_24 (by decide) ?_
      refine x_zret rfl dX4_isWhole_28 (by first | exact Or.inl rfl | exact Or.inr rfl | exact bi_01 _ | omega) (Nat.le_refl _) (Nat.le_refl _) ?_
      exact ⟨by first | exact rT ⟨c_7, c_20⟩ | exact rF (fun z => z.1 c_7) | exact rF (fun z => z.2 c_20), rfl, rfl⟩
/-- g disputes f -/
def dsK (J : Nat → Int → Int) (f g k : Int) : Prop := gsd J k f g ∧ partOf (J 369 (4 + g)) k ≠ J 385 (20 * k + f)
def dsW (J : Nat → Int → Int) (f g : Int) : Prop := J 371 g ≠ J 371 f ∧ whl J f ∧ whl J g ∧ J 385 g = J 385 f ∧ J 385 (20 + g) = J 385 (20 + f)
def ds1 (J : Nat → Int → Int) (f g : Int) : Prop := dsK J f g 0 ∨ dsK J f g 1 ∨ dsW J f g
def dsp (J : Nat → Int → Int) (f : Int) : Prop := ∃ g, (0 ≤ g ∧ g < J 360 4) ∧ ds1 J f g
theorem c_isDisputed {I : Nat → Int → Int} {f : Int} (h4 : 0 ≤ I 360 4 ∧ I 360 4 ≤ 20) (hLd : Laid I) (hgs : GsOK I) (hf : 0 ≤ f ∧ f < I 360 4) : mC yX4_isDisputed cX4_isDisputed 5 (some FieldType.boolean) 1 [vR (some 360), vI f] I (some (vI (bi (dsp I f)))) I := by
  have hki := hLd.ki hgs h4.2
  have hkf := hki.at hf
  have hif := hLd.in hf
  refine mC.of (by decide) rfl (Nat.le_of_ble_eq_true rfl) (fun G nx => ?_)
  refine x_ls (ls2 := [some (vR (some 360)), some (vI f), none, none, none]) rfl ?_
  refine x_iconst dX4_isDisputed_0 ?_
  refine x_istore_n dX4_isDisputed_1 (by decide) ?_
  refine rr_ind (W := fun g => mm G yX4_isDisputed cX4_isDisputed 5 (some FieldType.boolean) 1 nx _ _ 2 [some (vR (some 360)), some (vI f), some (vI g), none, none] [] I) (fun g => (I 360 4 - g).toNat) (fun g => (0 ≤ g ∧ g ≤ I 360 4) ∧ ∀ g', 0 ≤ g' → g' < g → ¬ ds1 I f g') ?_ 0 ⟨by omega, fun g' h1 h2 => by omega⟩
  rintro g ⟨hg, hno⟩ ih
  refine x_iload_n dX4_isDisputed_2 rfl ?_
  refine x_aload_n dX4_isDisputed_3 rfl ?_
  refine m_getI (kf := 4) 4 (by decide) rfl rfl q2119 rfl dX4_isDisputed_4 ?_
  refine x_icmp_ge (t := 175) dX4_isDisputed_7 (by decide) (by omega) (fun c_7 => ?_) (fun c_7 => ?_)
  · skip
    refine x_iconst dX4_isDisputed_175 ?_
    refine x_zret rfl dX4_isDisputed_176 (by first | exact Or.inl rfl | exact Or.inr rfl | exact bi_01 _ | omega) (Nat.le_refl _) (Nat.le_refl _) ?_
    exact ⟨rF (fun ⟨g', z1, z2⟩ => hno g' z1.1 (by omega) z2), rfl, rfl⟩
  · skip
    refine x_iconst dX4_isDisputed_10 ?_
    refine x_istore_n dX4_isDisputed_11 (by decide) ?_
    have hg2 : 0 ≤ g ∧ g < I 360 4 := by omega
    have hkg := hki.at hg2
    have hig := hLd.in hg2
    have htg := hgs g hg2.1 (by omega)
    have hyes : ds1 I f g → dsp I f := fun z => ⟨g, hg2, z⟩
    refine rr_ind (W := fun k => mm G yX4_isDisputed cX4_isDisputed 5 (some FieldType.boolean) 1 nx _ _ 12 [some (vR (some 360)), some (vI f), some (vI g), some (vI k), none] [] I) (fun k => (2 - k).toNat) (fun k => (0 ≤ k ∧ k ≤ 2) ∧ (0 < k → ¬ dsK I f g 0) ∧ (1 < k → ¬ dsK I f g 1)) ?_ 0 ⟨by omega, fun h => by omega, fun h => by omega⟩
    rintro k ⟨hk, hk0, hk1⟩ ih2
    have hk3 : k < 2 → (-1 ≤ I 385 (20 * k + f) ∧ I 385 (20 * k + f) < 10) ∧ (0 ≤ I 383 (20 * k + g) ∧ I 383 (20 * k + g) ≤ g) ∧ (0 ≤ I 383 (20 * k + f) ∧ I 383 (20 * k + f) ≤ f) := fun q => by
      rcases (show k = 0 ∨ k = 1 by omega) with rfl | rfl
      · rw [show 20 * 0 + f = f by omega, show 20 * 0 + g = g by omega]; exact ⟨hkf.1, hig.2.1, hif.2.1⟩
      · rw [show 20 * 1 + f = 20 + f by omega, show 20 * 1 + g = 20 + g by omega]; exact ⟨hkf.2, hig.2.2, hif.2.2⟩
    have hgo : k < 2 → ¬ dsK I f g k → mm G yX4_isDisputed cX4_isDisputed 5 (some FieldType.boolean) 1 nx _ _ 12 [some (vR (some 360)), some (vI f), some (vI g), some (vI (k + 1)), none] [] I := fun q z => ih2 (k + 1) ⟨by omega, fun _ => by
      by_cases e : k = 0
      · rw [e] at z; exact z
      · exact hk0 (by omega), fun _ => by
      by_cases e : k = 1
      · rw [e] at z; exact z
      · exact hk1 (by omega)⟩ (by omega)
    refine x_iload_n dX4_isDisputed_12 rfl ?_
    refine x_iconst dX4_isDisputed_13 ?_
    refine x_icmp_ge (t := 100) dX4_isDisputed_14 (by decide) (by omega) (fun c_14 => ?_) (fun c_14 => ?_)
    · skip
      have hk0 := hk0 (by omega)
      have hk1 := hk1 (by omega)
      have hgo : ¬ dsW I f g → mm G yX4_isDisputed cX4_isDisputed 5 (some FieldType.boolean) 1 nx _ _ 2 [some (vR (some 360)), some (vI f), some (vI (g + 1)), none, none] [] I := fun z => ih (g + 1) ⟨by omega, fun g' a b => by
        by_cases e : g' = g
        · rw [e]; exact fun w => w.elim hk0 (fun w => w.elim hk1 z)
        · exact hno g' a (by omega)⟩ (by omega)
      refine x_aload_n dX4_isDisputed_100 rfl ?_
      refine m_getA (kf := 18) 18 (a := 371) (by decide) rfl rfl q2133 rfl rfl dX4_isDisputed_101 ?_
      refine x_iload_n dX4_isDisputed_104 rfl ?_
      refine m_iald (n := 20) rfl rfl (by decide) (by omega) dX4_isDisputed_105 ?_
      refine x_aload_n dX4_isDisputed_106 rfl ?_
      refine m_getA (kf := 18) 18 (a := 371) (by decide) rfl rfl q2133 rfl rfl dX4_isDisputed_107 ?_
      refine x_iload_n dX4_isDisputed_110 rfl ?_
      refine m_iald (n := 20) rfl rfl (by decide) (by omega) dX4_isDisputed_111 ?_
      refine x_icmp_eq (t := 169) dX4_isDisputed_112 (by decide) (by omega) (fun c_112 => ?_) (fun c_112 => ?_)
      · skip
        have hgo := hgo (fun z => z.1 c_112)
        refine x_iinc dX4_isDisputed_169 rfl (by decide) ?_
        refine x_goto (t := 2) dX4_isDisputed_172 (by decide) ?_
        exact x_loc (by repeat first | exact trivial | refine ⟨Or.inr rfl, ?_⟩ | refine ⟨Or.inl rfl, ?_⟩) hgo
      · skip
        refine x_aload_n dX4_isDisputed_115 rfl ?_
        refine x_iload_n dX4_isDisputed_116 rfl ?_
        refine m_cv1 (c_isWhole (by omega) hki (by omega)) fX4_isWhole q2525 (by decide) (Nat.le_of_ble_eq_true rfl) dX4_isDisputed_117 ?_
        refine x_if_eq_b (t := 169) dX4_isDisputed_120 (by decide) (fun c_120 => ?_) (fun c_120 => ?_)
        · skip
          have hgo := hgo (fun z => c_120 z.2.1)
          refine x_iinc dX4_isDisputed_169 rfl (by decide) ?_
          refine x_goto (t := 2) dX4_isDisputed_172 (by decide) ?_
          exact x_loc (by repeat first | exact trivial | refine ⟨Or.inr rfl, ?_⟩ | refine ⟨Or.inl rfl, ?_⟩) hgo
        · skip
          refine x_aload_n dX4_isDisputed_123 rfl ?_
          refine x_iload_n dX4_isDisputed_124 rfl ?_
          refine m_cv1 (c_isWhole (by omega) hki (by omega)) fX4_isWhole q2525 (by decide) (Nat.le_of_ble_eq_true rfl) dX4_isDisputed_125 ?_
          refine x_if_eq_b (t := 169) dX4_isDisputed_128 (by decide) (fun c_128 => ?_) (fun c_128 => ?_)
          · skip
            have hgo := hgo (fun z => c_128 z.2.2.1)
            refine x_iinc dX4_isDisputed_169 rfl (by decide) ?_
            refine x_goto (t := 2) dX4_isDisputed_172 (by decide) ?_
            exact x_loc (by repeat first | exact trivial | refine ⟨Or.inr rfl, ?_⟩ | refine ⟨Or.inl rfl, ?_⟩) hgo
          · skip
            refine x_aload_n dX4_isDisputed_131 rfl ?_
            refine m_getA (kf := 37) 37 (a := 385) (by decide) rfl rfl q2152 rfl rfl dX4_isDisputed_132 ?_
            refine x_iload_n dX4_isDisputed_135 rfl ?_
            refine m_iald (n := 40) rfl rfl (by decide) (by omega) dX4_isDisputed_136 ?_
            refine x_aload_n dX4_isDisputed_137 rfl ?_
            refine m_getA (kf := 37) 37 (a := 385) (by decide) rfl rfl q2152 rfl rfl dX4_isDisputed_138 ?_
            refine x_iload_n dX4_isDisputed_141 rfl ?_
            refine m_iald (n := 40) rfl rfl (by decide) (by omega) dX4_isDisputed_142 ?_
            refine x_icmp_ne (t := 169) dX4_isDisputed_143 (by decide) (by omega) (fun c_143 => ?_) (fun c_143 => ?_)
            · skip
              have hgo := hgo (fun z => c_143 z.2.2.2.1)
              refine x_iinc dX4_isDisputed_169 rfl (by decide) ?_
              refine x_goto (t := 2) dX4_isDisputed_172 (by decide) ?_
              exact x_loc (by repeat first | exact trivial | refine ⟨Or.inr rfl, ?_⟩ | refine ⟨Or.inl rfl, ?_⟩) hgo
            · skip
              refine x_aload_n dX4_isDisputed_146 rfl ?_
              refine m_getA (kf := 37) 37 (a := 385) (by decide) rfl rfl q2152 rfl rfl dX4_isDisputed_147 ?_
              refine x_bipush dX4_isDisputed_150 (by decide) ?_
              refine x_iload_n dX4_isDisputed_152 rfl ?_
              refine x_iadd dX4_isDisputed_153 ?_
              refine m_iald (n := 40) rfl rfl (by decide) (by omega) dX4_isDisputed_154 ?_
              refine x_aload_n dX4_isDisputed_155 rfl ?_
              refine m_getA (kf := 37) 37 (a := 385) (by decide) rfl rfl q2152 rfl rfl dX4_isDisputed_156 ?_
              refine x_bipush dX4_isDisputed_159 (by decide) ?_
              refine x_iload_n dX4_isDisputed_161 rfl ?_
              refine x_iadd dX4_isDisputed_162 ?_
              refine m_iald (n := 40) rfl rfl (by decide) (by omega) dX4_isDisputed_163 ?_
              refine x_icmp_ne (t := 169) dX4_isDisputed_164 (by decide) (by omega) (fun c_164 => ?_) (fun c_164 => ?_)
              · skip
                have hgo := hgo (fun z => c_164 z.2.2.2.2)
                refine x_iinc dX4_isDisputed_169 rfl (by decide) ?_
                refine x_goto (t := 2) dX4_isDisputed_172 (by decide) ?_
                exact x_loc (by repeat first | exact trivial | refine ⟨Or.inr rfl, ?_⟩ | refine ⟨Or.inl rfl, ?_⟩) hgo
              · skip
                refine x_iconst dX4_isDisputed_167 ?_
                refine x_zret rfl dX4_isDisputed_168 (by first | exact Or.inl rfl | exact Or.inr rfl | exact bi_01 _ | omega) (Nat.le_refl _) (Nat.le_refl _) ?_
                exact ⟨rT (hyes (Or.inr (Or.inr ⟨c_112, c_120, c_128, c_143, c_164⟩))), rfl, rfl⟩
    · skip
      have hk3 := hk3 (by omega)
      have hb01 := bi_01 (gsd I k f g)
      refine x_aload_n dX4_isDisputed_17 rfl ?_
      refine m_getA (kf := 15) 15 (a := 369) (by decide) rfl rfl q2130 rfl rfl dX4_isDisputed_18 ?_
      refine x_iconst dX4_isDisputed_21 ?_
      refine x_iload_n dX4_isDisputed_22 rfl ?_
      refine x_iadd dX4_isDisputed_23 ?_
      refine m_iald (n := 460) rfl rfl (by decide) (by omega) dX4_isDisputed_24 ?_
      refine x_iconst dX4_isDisputed_25 ?_
      refine x_icmp_eq (t := 58) dX4_isDisputed_26 (by decide) (by omega) (fun c_26 => ?_) (fun c_26 => ?_)
      · skip
        refine x_iconst dX4_isDisputed_58 ?_
        refine x_top (bi (gsd I k f g)) (by
          first
          | exact (bi_t ⟨c_26, c_51⟩).symm
          | exact (bi_f (fun z => c_51 z.2)).symm
          | exact (bi_f (fun z => z.1 c_26)).symm) ?_
        refine x_istore dX4_isDisputed_59 (by decide) ?_
        refine x_iload dX4_isDisputed_61 rfl ?_
        refine x_if_eq (t := 94) dX4_isDisputed_63 (by decide) (by omega) (fun c_63 => ?_) (fun c_63 => ?_)
        · skip
          have hgo := hgo (by omega) (fun z => by rw [bi_t z.1] at c_63; omega)
          refine x_iinc dX4_isDisputed_94 rfl (by decide) ?_
          refine x_goto (t := 12) dX4_isDisputed_97 (by decide) ?_
          exact x_loc (by repeat first | exact trivial | refine ⟨Or.inr rfl, ?_⟩ | refine ⟨Or.inl rfl, ?_⟩) hgo
        · skip
          have hyg : gsd I k f g := Classical.byContradiction fun z => c_63 (bi_f z)
          have hne := hyg.1
          have hpi := partOf_in (g := I 369 (4 + g)) (k := k) (by omega)
          refine x_aload_n dX4_isDisputed_66 rfl ?_
          refine m_getA (kf := 15) 15 (a := 369) (by decide) rfl rfl q2130 rfl rfl dX4_isDisputed_67 ?_
          refine x_iconst dX4_isDisputed_70 ?_
          refine x_iload_n dX4_isDisputed_71 rfl ?_
          refine x_iadd dX4_isDisputed_72 ?_
          refine m_iald (n := 460) rfl rfl (by decide) (by omega) dX4_isDisputed_73 ?_
          refine x_iload_n dX4_isDisputed_74 rfl ?_
          refine m_cs2 (c_partOf (by omega) (by omega)) fX4_partOf q2502 (by decide) (Nat.le_of_ble_eq_true rfl) dX4_isDisputed_75 ?_
          refine x_aload_n dX4_isDisputed_78 rfl ?_
          refine m_getA (kf := 37) 37 (a := 385) (by decide) rfl rfl q2152 rfl rfl dX4_isDisputed_79 ?_
          refine x_bipush dX4_isDisputed_82 (by decide) ?_
          refine x_iload_n dX4_isDisputed_84 rfl ?_
          refine x_imul dX4_isDisputed_85 ?_
          refine x_iload_n dX4_isDisputed_86 rfl ?_
          refine x_iadd dX4_isDisputed_87 ?_
          refine m_iald (n := 40) rfl rfl (by decide) (by omega) dX4_isDisputed_88 ?_
          refine x_icmp_eq (t := 94) dX4_isDisputed_89 (by decide) (by omega) (fun c_89 => ?_) (fun c_89 => ?_)
          · skip
            have hgo := hgo (by omega) (fun z => z.2 c_89)
            refine x_iinc dX4_isDisputed_94 rfl (by decide) ?_
            refine x_goto (t := 12) dX4_isDisputed_97 (by decide) ?_
            exact x_loc (by repeat first | exact trivial | refine ⟨Or.inr rfl, ?_⟩ | refine ⟨Or.inl rfl, ?_⟩) hgo
          · skip
            refine x_iconst dX4_isDisputed_92 ?_
            refine x_zret rfl dX4_isDisputed_93 (by first | exact Or.inl rfl | exact Or.inr rfl | exact bi_01 _ | omega) (Nat.le_refl _) (Nat.le_refl _) ?_
            exact ⟨rT (hyes (by
              have hd : dsK I f g k := ⟨hyg, c_89⟩
              rcases (show k = 0 ∨ k = 1 by omega) with rfl | rfl
              · exact Or.inl hd
              · exact Or.inr (Or.inl hd))), rfl, rfl⟩
      · skip
        refine x_aload_n dX4_isDisputed_29 rfl ?_
        refine m_getA (kf := 35) 35 (a := 383) (by decide) rfl rfl q2150 rfl rfl dX4_isDisputed_30 ?_
        refine x_bipush dX4_isDisputed_33 (by decide) ?_
        refine x_iload_n dX4_isDisputed_35 rfl ?_
        refine x_imul dX4_isDisputed_36 ?_
        refine x_iload_n dX4_isDisputed_37 rfl ?_
        refine x_iadd dX4_isDisputed_38 ?_
        refine m_iald (n := 40) rfl rfl (by decide) (by omega) dX4_isDisputed_39 ?_
        refine x_aload_n dX4_isDisputed_40 rfl ?_
        refine m_getA (kf := 35) 35 (a := 383) (by decide) rfl rfl q2150 rfl rfl dX4_isDisputed_41 ?_
        refine x_bipush dX4_isDisputed_44 (by decide) ?_
        refine x_iload_n dX4_isDisputed_46 rfl ?_
        refine x_imul dX4_isDisputed_47 ?_
        refine x_iload_n dX4_isDisputed_48 rfl ?_
        refine x_iadd dX4_isDisputed_49 ?_
        refine m_iald (n := 40) rfl rfl (by decide) (by omega) dX4_isDisputed_50 ?_
        refine x_icmp_ne (t := 58) dX4_isDisputed_51 (by decide) (by omega) (fun c_51 => ?_) (fun c_51 => ?_)
        · skip
          refine x_iconst dX4_isDisputed_58 ?_
          refine x_top (bi (gsd I k f g)) (by
            first
            | exact (bi_t ⟨c_26, c_51⟩).symm
            | exact (bi_f (fun z => c_51 z.2)).symm
            | exact (bi_f (fun z => z.1 c_26)).symm) ?_
          refine x_istore dX4_isDisputed_59 (by decide) ?_
          refine x_iload dX4_isDisputed_61 rfl ?_
          refine x_if_eq (t := 94) dX4_isDisputed_63 (by decide) (by omega) (fun c_63 => ?_) (fun c_63 => ?_)
          · skip
            have hgo := hgo (by omega) (fun z => by rw [bi_t z.1] at c_63; omega)
            refine x_iinc dX4_isDisputed_94 rfl (by decide) ?_
            refine x_goto (t := 12) dX4_isDisputed_97 (by decide) ?_
            exact x_loc (by repeat first | exact trivial | refine ⟨Or.inr rfl, ?_⟩ | refine ⟨Or.inl rfl, ?_⟩) hgo
          · skip
            have hyg : gsd I k f g := Classical.byContradiction fun z => c_63 (bi_f z)
            have hne := hyg.1
            have hpi := partOf_in (g := I 369 (4 + g)) (k := k) (by omega)
            refine x_aload_n dX4_isDisputed_66 rfl ?_
            refine m_getA (kf := 15) 15 (a := 369) (by decide) rfl rfl q2130 rfl rfl dX4_isDisputed_67 ?_
            refine x_iconst dX4_isDisputed_70 ?_
            refine x_iload_n dX4_isDisputed_71 rfl ?_
            refine x_iadd dX4_isDisputed_72 ?_
            refine m_iald (n := 460) rfl rfl (by decide) (by omega) dX4_isDisputed_73 ?_
            refine x_iload_n dX4_isDisputed_74 rfl ?_
            refine m_cs2 (c_partOf (by omega) (by omega)) fX4_partOf q2502 (by decide) (Nat.le_of_ble_eq_true rfl) dX4_isDisputed_75 ?_
            refine x_aload_n dX4_isDisputed_78 rfl ?_
            refine m_getA (kf := 37) 37 (a := 385) (by decide) rfl rfl q2152 rfl rfl dX4_isDisputed_79 ?_
            refine x_bipush dX4_isDisputed_82 (by decide) ?_
            refine x_iload_n dX4_isDisputed_84 rfl ?_
            refine x_imul dX4_isDisputed_85 ?_
            refine x_iload_n dX4_isDisputed_86 rfl ?_
            refine x_iadd dX4_isDisputed_87 ?_
            refine m_iald (n := 40) rfl rfl (by decide) (by omega) dX4_isDisputed_88 ?_
            refine x_icmp_eq (t := 94) dX4_isDisputed_89 (by decide) (by omega) (fun c_89 => ?_) (fun c_89 => ?_)
            · skip
              have hgo := hgo (by omega) (fun z => z.2 c_89)
              refine x_iinc dX4_isDisputed_94 rfl (by decide) ?_
              refine x_goto (t := 12) dX4_isDisputed_97 (by decide) ?_
              exact x_loc (by repeat first | exact trivial | refine ⟨Or.inr rfl, ?_⟩ | refine ⟨Or.inl rfl, ?_⟩) hgo
            · skip
              refine x_iconst dX4_isDisputed_92 ?_
              refine x_zret rfl dX4_isDisputed_93 (by first | exact Or.inl rfl | exact Or.inr rfl | exact bi_01 _ | omega) (Nat.le_refl _) (Nat.le_refl _) ?_
              exact ⟨rT (hyes (by
                have hd : dsK I f g k := ⟨hyg, c_89⟩
                rcases (show k = 0 ∨ k = 1 by omega) with rfl | rfl
                · exact Or.inl hd
                · exact Or.inr (Or.inl hd))), rfl, rfl⟩
        · skip
          refine x_iconst dX4_isDisputed_54 ?_
          refine x_goto (t := 59) dX4_isDisputed_55 (by decide) ?_
          refine x_top (bi (gsd I k f g)) (by
            first
            | exact (bi_t ⟨c_26, c_51⟩).symm
            | exact (bi_f (fun z => c_51 z.2)).symm
            | exact (bi_f (fun z => z.1 c_26)).symm) ?_
          refine x_istore dX4_isDisputed_59 (by decide) ?_
          refine x_iload dX4_isDisputed_61 rfl ?_
          refine x_if_eq (t := 94) dX4_isDisputed_63 (by decide) (by omega) (fun c_63 => ?_) (fun c_63 => ?_)
          · skip
            have hgo := hgo (by omega) (fun z => by rw [bi_t z.1] at c_63; omega)
            refine x_iinc dX4_isDisputed_94 rfl (by decide) ?_
            refine x_goto (t := 12) dX4_isDisputed_97 (by decide) ?_
            exact x_loc (by repeat first | exact trivial | refine ⟨Or.inr rfl, ?_⟩ | refine ⟨Or.inl rfl, ?_⟩) hgo
          · skip
            have hyg : gsd I k f g := Classical.byContradiction fun z => c_63 (bi_f z)
            have hne := hyg.1
            have hpi := partOf_in (g := I 369 (4 + g)) (k := k) (by omega)
            refine x_aload_n dX4_isDisputed_66 rfl ?_
            refine m_getA (kf := 15) 15 (a := 369) (by decide) rfl rfl q2130 rfl rfl dX4_isDisputed_67 ?_
            refine x_iconst dX4_isDisputed_70 ?_
            refine x_iload_n dX4_isDisputed_71 rfl ?_
            refine x_iadd dX4_isDisputed_72 ?_
            refine m_iald (n := 460) rfl rfl (by decide) (by omega) dX4_isDisputed_73 ?_
            refine x_iload_n dX4_isDisputed_74 rfl ?_
            refine m_cs2 (c_partOf (by omega) (by omega)) fX4_partOf q2502 (by decide) (Nat.le_of_ble_eq_true rfl) dX4_isDisputed_75 ?_
            refine x_aload_n dX4_isDisputed_78 rfl ?_
            refine m_getA (kf := 37) 37 (a := 385) (by decide) rfl rfl q2152 rfl rfl dX4_isDisputed_79 ?_
            refine x_bipush dX4_isDisputed_82 (by decide) ?_
            refine x_iload_n dX4_isDisputed_84 rfl ?_
            refine x_imul dX4_isDisputed_85 ?_
            refine x_iload_n dX4_isDisputed_86 rfl ?_
            refine x_iadd dX4_isDisputed_87 ?_
            refine m_iald (n := 40) rfl rfl (by decide) (by omega) dX4_isDisputed_88 ?_
            refine x_icmp_eq (t := 94) dX4_isDisputed_89 (by decide) (by omega) (fun c_89 => ?_) (fun c_89 => ?_)
            · skip
              have hgo := hgo (by omega) (fun z => z.2 c_89)
              refine x_iinc dX4_isDisputed_94 rfl (by decide) ?_
              refine x_goto (t := 12) dX4_isDisputed_97 (by decide) ?_
              exact x_loc (by repeat first | exact trivial | refine ⟨Or.inr rfl, ?_⟩ | refine ⟨Or.inl rfl, ?_⟩) hgo
            · skip
              refine x_iconst dX4_isDisputed_92 ?_
              refine x_zret rfl dX4_isDisputed_93 (by first | exact Or.inl rfl | exact Or.inr rfl | exact bi_01 _ | omega) (Nat.le_refl _) (Nat.le_refl _) ?_
              exact ⟨rT (hyes (by
                have hd : dsK I f g k := ⟨hyg, c_89⟩
                rcases (show k = 0 ∨ k = 1 by omega) with rfl | rfl
                · exact Or.inl hd
                · exact Or.inr (Or.inl hd))), rfl, rfl⟩
noncomputable def m_disp (J : Nat → Int → Int) : Int := cnt (fun f => J 371 f = f ∧ dsp J f) (J 360 4)
theorem c_disputedMany {I : Nat → Int → Int} (h4 : 0 ≤ I 360 4 ∧ I 360 4 ≤ 20) (hLd : Laid I) (hgs : GsOK I) : mC yX4_disputedMany cX4_disputedMany 3 (some FieldType.int) 2 [vR (some 360)] I (some (vI (m_disp I))) I := by
  refine mC.of (by decide) rfl (Nat.le_of_ble_eq_true rfl) (fun G nx => ?_)
  refine x_ls (ls2 := [some (vR (some 360)), none, none]) rfl ?_
  unfold m_disp
  refine x_iconst dX4_disputedMany_0 ?_
  refine x_istore_n dX4_disputedMany_1 (by decide) ?_
  refine x_iconst dX4_disputedMany_2 ?_
  refine x_istore_n dX4_disputedMany_3 (by decide) ?_
  refine x_loc (ls2 := [some (vR (some 360)), some (vI (cnt (fun f => I 371 f = f ∧ dsp I f) 0)), some (vI 0)]) (by rw [cnt_0]; exact (by repeat first | exact trivial | refine ⟨Or.inr rfl, ?_⟩ | refine ⟨Or.inl rfl, ?_⟩)) ?_
  refine rr_ind (W := fun k => mm G yX4_disputedMany cX4_disputedMany 3 (some FieldType.int) 2 nx _ _ 4 [some (vR (some 360)), some (vI (cnt (fun f => I 371 f = f ∧ dsp I f) k)), some (vI k)] [] I) (fun k => (I 360 4 - k).toNat) (fun k => 0 ≤ k ∧ k ≤ I 360 4) ?_ 0 (by omega)
  intro k hk ih
  have hup := cnt_up (fun f => I 371 f = f ∧ dsp I f) hk.1
  have hin := fun q => hLd.in (f := k) q
  refine x_iload_n dX4_disputedMany_4 rfl ?_
  refine x_aload_n dX4_disputedMany_5 rfl ?_
  refine m_getI (kf := 4) 4 (by decide) rfl rfl q2119 rfl dX4_disputedMany_6 ?_
  refine x_icmp_ge (t := 45) dX4_disputedMany_9 (by decide) (by omega) (fun c_9 => ?_) (fun c_9 => ?_)
  · skip
    refine x_iload_n dX4_disputedMany_45 rfl ?_
    refine x_iret rfl dX4_disputedMany_46 (Nat.le_refl _) (Nat.le_refl _) ?_
    exact ⟨by rw [show k = I 360 4 by omega], rfl, rfl⟩
  · skip
    have hin := hin (by omega)
    refine x_iload_n dX4_disputedMany_12 rfl ?_
    refine x_aload_n dX4_disputedMany_13 rfl ?_
    refine x_iload_n dX4_disputedMany_14 rfl ?_
    refine m_cv1 (c_isSign (by omega) (by omega)) fX4_isSign q2517 (by decide) (Nat.le_of_ble_eq_true rfl) dX4_disputedMany_15 ?_
    refine x_if_eq_b (t := 33) dX4_disputedMany_18 (by decide) (fun c_18 => ?_) (fun c_18 => ?_)
    · skip
      refine x_iconst dX4_disputedMany_33 ?_
      refine x_top (bi (I 371 k = k ∧ dsp I k)) (by first | exact (bi_t ⟨c_18, c_26⟩).symm | exact (bi_f (fun z => c_18 z.1)).symm | exact (bi_f (fun z => c_26 z.2)).symm) ?_
      refine m_cs1 (c_truth) fX4_truth q2327 (by decide) (Nat.le_of_ble_eq_true rfl) dX4_disputedMany_34 ?_
      refine x_iadd dX4_disputedMany_37 ?_
      rw [← hup]
      refine x_istore_n dX4_disputedMany_38 (by decide) ?_
      refine x_iinc dX4_disputedMany_39 rfl (by decide) ?_
      refine x_goto (t := 4) dX4_disputedMany_42 (by decide) ?_
      exact ih (k + 1) (by omega) (by omega)
    · skip
      refine x_aload_n dX4_disputedMany_21 rfl ?_
      refine x_iload_n dX4_disputedMany_22 rfl ?_
      refine m_cv1 (c_isDisputed (by omega) hLd hgs (by omega)) fX4_isDisputed q2521 (by decide) (Nat.le_of_ble_eq_true rfl) dX4_disputedMany_23 ?_
      refine x_if_eq_b (t := 33) dX4_disputedMany_26 (by decide) (fun c_26 => ?_) (fun c_26 => ?_)
      · skip
        refine x_iconst dX4_disputedMany_33 ?_
        refine x_top (bi (I 371 k = k ∧ dsp I k)) (by first | exact (bi_t ⟨c_18, c_26⟩).symm | exact (bi_f (fun z => c_18 z.1)).symm | exact (bi_f (fun z => c_26 z.2)).symm) ?_
        refine m_cs1 (c_truth) fX4_truth q2327 (by decide) (Nat.le_of_ble_eq_true rfl) dX4_disputedMany_34 ?_
        refine x_iadd dX4_disputedMany_37 ?_
        rw [← hup]
        refine x_istore_n dX4_disputedMany_38 (by decide) ?_
        refine x_iinc dX4_disputedMany_39 rfl (by decide) ?_
        refine x_goto (t := 4) dX4_disputedMany_42 (by decide) ?_
        exact ih (k + 1) (by omega) (by omega)
      · skip
        refine x_iconst dX4_disputedMany_29 ?_
        refine x_goto (t := 34) dX4_disputedMany_30 (by decide) ?_
        refine x_top (bi (I 371 k = k ∧ dsp I k)) (by first | exact (bi_t ⟨c_18, c_26⟩).symm | exact (bi_f (fun z => c_18 z.1)).symm | exact (bi_f (fun z => c_26 z.2)).symm) ?_
        refine m_cs1 (c_truth) fX4_truth q2327 (by decide) (Nat.le_of_ble_eq_true rfl) dX4_disputedMany_34 ?_
        refine x_iadd dX4_disputedMany_37 ?_
        rw [← hup]
        refine x_istore_n dX4_disputedMany_38 (by decide) ?_
        refine x_iinc dX4_disputedMany_39 rfl (by decide) ?_
        refine x_goto (t := 4) dX4_disputedMany_42 (by decide) ?_
        exact ih (k + 1) (by omega) (by omega)
theorem GsOK_eqx {I J : Nat → Int → Int} (h : GsOK I) (h9 : J 369 = I 369) : GsOK J := by unfold GsOK; rw [h9]; exact h
noncomputable def v_known (f w : Int) (J : Nat → Int → Int) : Int := if (0 ≤ f ∧ f < J 360 4) ∧ 0 ≤ w ∧ w ≤ 2 then (if w = 2 then bi (dsp J f) else J 385 (20 * w + f)) else -1
theorem c_known {I : Nat → Int → Int} {f w : Int} (hr : i32 f) (hw : i32 w) (h : MI I) : mQ yX4_known cX4_known 3 (some FieldType.int) 6 [vR (some 360), vI f, vI w] I (QP I (v_known f w)) := by
  have h4 := h.1.1.2.1
  refine mQ.of (by decide) rfl (Nat.le_of_ble_eq_true rfl) (fun G nx => ?_)
  refine x_ls (ls2 := [some (vR (some 360)), some (vI f), some (vI w)]) rfl ?_
  unfold v_known
  refine x_aload_n dX4_known_0 rfl ?_
  refine x_iload_n dX4_known_1 rfl ?_
  refine m_cv1 (c_isForm (by omega) (by assumption)) fX4_isForm q2382 (by decide) (Nat.le_of_ble_eq_true rfl) dX4_known_2 ?_
  refine x_if_eq_b (t := 17) dX4_known_5 (by decide) (fun c_5 => ?_) (fun c_5 => ?_)
  · skip
    refine x_iconst dX4_known_17 ?_
    refine x_iret rfl dX4_known_18 (Nat.le_refl _) (Nat.le_refl _) ?_
    exact ⟨_, rfl, rfl, _, rfl, Keep.rf h.2, by dsimp only; rw [if_neg (by omega)]⟩
  · skip
    refine x_iload_n dX4_known_8 rfl ?_
    refine x_iconst dX4_known_9 ?_
    refine x_iconst dX4_known_10 ?_
    refine m_cs3 (c_in (by omega) (by omega) (by omega)) fX4_in q2299 (by decide) (Nat.le_of_ble_eq_true rfl) dX4_known_11 ?_
    refine x_if_ne_b (t := 19) dX4_known_14 (by decide) (fun c_14 => ?_) (fun c_14 => ?_)
    · skip
      refine x_aload_n dX4_known_19 rfl ?_
      refine m_ew0 (c_lays h.1 h.2) fX4_lays q2398 (by decide) (Nat.le_of_ble_eq_true rfl) dX4_known_20 (fun I2 hI2 => ?_)
      have e4 := hI2.1.2 4 (by decide)
      have hLd := hI2.2.1
      have hgs := GsOK_eqx h.1.2.2.2.2.2.2 (hI2.1.1 369 (by decide) (by decide))
      refine x_iload_n dX4_known_23 rfl ?_
      refine x_iconst dX4_known_24 ?_
      refine x_icmp_ne (t := 39) dX4_known_25 (by decide) (by omega) (fun c_25 => ?_) (fun c_25 => ?_)
      · skip
        refine x_aload_n dX4_known_39 rfl ?_
        refine m_getA (kf := 37) 37 (a := 385) (by decide) rfl rfl q2152 rfl rfl dX4_known_40 ?_
        refine x_bipush dX4_known_43 (by decide) ?_
        refine x_iload_n dX4_known_45 rfl ?_
        refine x_imul dX4_known_46 ?_
        refine x_iload_n dX4_known_47 rfl ?_
        refine x_iadd dX4_known_48 ?_
        refine m_iald (n := 40) rfl rfl (by decide) (by omega) dX4_known_49 ?_
        refine x_iret rfl dX4_known_50 (Nat.le_refl _) (Nat.le_refl _) ?_
        exact ⟨_, rfl, rfl, _, rfl, hI2.keep, by dsimp only; rw [if_pos (by omega)]; first | rw [if_pos (by omega)] | rw [if_neg (by omega)]⟩
      · skip
        refine x_aload_n dX4_known_28 rfl ?_
        refine x_iload_n dX4_known_29 rfl ?_
        refine m_cv1 (c_isDisputed (by omega) hLd hgs (by omega)) fX4_isDisputed q2521 (by decide) (Nat.le_of_ble_eq_true rfl) dX4_known_30 ?_
        refine m_cs1 (c_truth) fX4_truth q2327 (by decide) (Nat.le_of_ble_eq_true rfl) dX4_known_33 ?_
        refine x_goto (t := 50) dX4_known_36 (by decide) ?_
        refine x_iret rfl dX4_known_50 (Nat.le_refl _) (Nat.le_refl _) ?_
        exact ⟨_, rfl, rfl, _, rfl, hI2.keep, by dsimp only; rw [if_pos (by omega)]; first | rw [if_pos (by omega)] | rw [if_neg (by omega)]⟩
    · skip
      refine x_iconst dX4_known_17 ?_
      refine x_iret rfl dX4_known_18 (Nat.le_refl _) (Nat.le_refl _) ?_
      exact ⟨_, rfl, rfl, _, rfl, Keep.rf h.2, by dsimp only; rw [if_neg (by omega)]⟩
theorem c_groups {I : Nat → Int → Int} {b : Int} (h4 : 0 ≤ I 360 4 ∧ I 360 4 ≤ 20) (hLd : Laid I) (hb : b = 0 ∨ b = 1) : mC yX4_groups cX4_groups 4 (some FieldType.int) 1 [vR (some 360), vI b] I (some (vI (cnt (fun f => I 383 (20 * b + f) = f) (I 360 4)))) I := by
  refine mC.of (by decide) rfl (Nat.le_of_ble_eq_true rfl) (fun G nx => ?_)
  refine x_ls (ls2 := [some (vR (some 360)), some (vI b), none, none]) rfl ?_
  refine x_iconst dX4_groups_0 ?_
  refine x_istore_n dX4_groups_1 (by decide) ?_
  refine x_iconst dX4_groups_2 ?_
  refine x_istore_n dX4_groups_3 (by decide) ?_
  refine x_loc (ls2 := [some (vR (some 360)), some (vI b), some (vI (cnt (fun f => I 383 (20 * b + f) = f) 0)), some (vI 0)]) (by rw [cnt_0]; exact (by repeat first | exact trivial | refine ⟨Or.inr rfl, ?_⟩ | refine ⟨Or.inl rfl, ?_⟩)) ?_
  refine rr_ind (W := fun k => mm G yX4_groups cX4_groups 4 (some FieldType.int) 1 nx _ _ 4 [some (vR (some 360)), some (vI b), some (vI (cnt (fun f => I 383 (20 * b + f) = f) k)), some (vI k)] [] I) (fun k => (I 360 4 - k).toNat) (fun k => 0 ≤ k ∧ k ≤ I 360 4) ?_ 0 (by omega)
  intro k hk ih
  have hup := cnt_up (fun f => I 383 (20 * b + f) = f) hk.1
  have hin : k < I 360 4 → 0 ≤ I 383 (20 * b + k) ∧ I 383 (20 * b + k) ≤ k := fun q => by
    have := hLd.in (f := k) (by omega)
    rcases hb with rfl | rfl
    · rw [show 20 * 0 + k = k by omega]; exact this.2.1
    · rw [show 20 * 1 + k = 20 + k by omega]; exact this.2.2
  refine x_iload_n dX4_groups_4 rfl ?_
  refine x_aload_n dX4_groups_5 rfl ?_
  refine m_getI (kf := 4) 4 (by decide) rfl rfl q2119 rfl dX4_groups_6 ?_
  refine x_icmp_ge (t := 44) dX4_groups_9 (by decide) (by omega) (fun c_9 => ?_) (fun c_9 => ?_)
  · skip
    refine x_iload_n dX4_groups_44 rfl ?_
    refine x_iret rfl dX4_groups_45 (Nat.le_refl _) (Nat.le_refl _) ?_
    exact ⟨by rw [show k = I 360 4 by omega], rfl, rfl⟩
  · skip
    have hin := hin (by omega)
    refine x_iload_n dX4_groups_12 rfl ?_
    refine x_aload_n dX4_groups_13 rfl ?_
    refine m_getA (kf := 35) 35 (a := 383) (by decide) rfl rfl q2150 rfl rfl dX4_groups_14 ?_
    refine x_bipush dX4_groups_17 (by decide) ?_
    refine x_iload_n dX4_groups_19 rfl ?_
    refine x_imul dX4_groups_20 ?_
    refine x_iload_n dX4_groups_21 rfl ?_
    refine x_iadd dX4_groups_22 ?_
    refine m_iald (n := 40) rfl rfl (by decide) (by omega) dX4_groups_23 ?_
    refine x_iload_n dX4_groups_24 rfl ?_
    refine x_icmp_ne (t := 32) dX4_groups_25 (by decide) (by omega) (fun c_25 => ?_) (fun c_25 => ?_)
    · skip
      refine x_iconst dX4_groups_32 ?_
      refine x_top (bi (I 383 (20 * b + k) = k)) (by first | exact (bi_t c_25).symm | exact (bi_f c_25).symm) ?_
      refine m_cs1 (c_truth) fX4_truth q2327 (by decide) (Nat.le_of_ble_eq_true rfl) dX4_groups_33 ?_
      refine x_iadd dX4_groups_36 ?_
      rw [← hup]
      refine x_istore_n dX4_groups_37 (by decide) ?_
      refine x_iinc dX4_groups_38 rfl (by decide) ?_
      refine x_goto (t := 4) dX4_groups_41 (by decide) ?_
      exact ih (k + 1) (by omega) (by omega)
    · skip
      refine x_iconst dX4_groups_28 ?_
      refine x_goto (t := 33) dX4_groups_29 (by decide) ?_
      refine x_top (bi (I 383 (20 * b + k) = k)) (by first | exact (bi_t c_25).symm | exact (bi_f c_25).symm) ?_
      refine m_cs1 (c_truth) fX4_truth q2327 (by decide) (Nat.le_of_ble_eq_true rfl) dX4_groups_33 ?_
      refine x_iadd dX4_groups_36 ?_
      rw [← hup]
      refine x_istore_n dX4_groups_37 (by decide) ?_
      refine x_iinc dX4_groups_38 rfl (by decide) ?_
      refine x_goto (t := 4) dX4_groups_41 (by decide) ?_
      exact ih (k + 1) (by omega) (by omega)
theorem c_guesses {I : Nat → Int → Int} (h4 : 0 ≤ I 360 4 ∧ I 360 4 ≤ 20) (hgs : GsOK I) : mC yX4_guesses cX4_guesses 3 (some FieldType.int) 1 [vR (some 360)] I (some (vI (cnt (fun f => I 369 (4 + f) ≠ -1) (I 360 4)))) I := by
  refine mC.of (by decide) rfl (Nat.le_of_ble_eq_true rfl) (fun G nx => ?_)
  refine x_ls (ls2 := [some (vR (some 360)), none, none]) rfl ?_
  refine x_iconst dX4_guesses_0 ?_
  refine x_istore_n dX4_guesses_1 (by decide) ?_
  refine x_iconst dX4_guesses_2 ?_
  refine x_istore_n dX4_guesses_3 (by decide) ?_
  refine x_loc (ls2 := [some (vR (some 360)), some (vI (cnt (fun f => I 369 (4 + f) ≠ -1) 0)), some (vI 0)]) (by rw [cnt_0]; exact (by repeat first | exact trivial | refine ⟨Or.inr rfl, ?_⟩ | refine ⟨Or.inl rfl, ?_⟩)) ?_
  refine rr_ind (W := fun k => mm G yX4_guesses cX4_guesses 3 (some FieldType.int) 1 nx _ _ 4 [some (vR (some 360)), some (vI (cnt (fun f => I 369 (4 + f) ≠ -1) k)), some (vI k)] [] I) (fun k => (I 360 4 - k).toNat) (fun k => 0 ≤ k ∧ k ≤ I 360 4) ?_ 0 (by omega)
  intro k hk ih
  have hup := cnt_up (fun f => I 369 (4 + f) ≠ -1) hk.1
  have hin : k < I 360 4 → -1 ≤ I 369 (4 + k) ∧ I 369 (4 + k) < 50 := fun q => hgs k hk.1 (by omega)
  refine x_iload_n dX4_guesses_4 rfl ?_
  refine x_aload_n dX4_guesses_5 rfl ?_
  refine m_getI (kf := 4) 4 (by decide) rfl rfl q2119 rfl dX4_guesses_6 ?_
  refine x_icmp_ge (t := 41) dX4_guesses_9 (by decide) (by omega) (fun c_9 => ?_) (fun c_9 => ?_)
  · skip
    refine x_iload_n dX4_guesses_41 rfl ?_
    refine x_iret rfl dX4_guesses_42 (Nat.le_refl _) (Nat.le_refl _) ?_
    exact ⟨by rw [show k = I 360 4 by omega], rfl, rfl⟩
  · skip
    have hin := hin (by omega)
    refine x_iload_n dX4_guesses_12 rfl ?_
    refine x_aload_n dX4_guesses_13 rfl ?_
    refine m_getA (kf := 15) 15 (a := 369) (by decide) rfl rfl q2130 rfl rfl dX4_guesses_14 ?_
    refine x_iconst dX4_guesses_17 ?_
    refine x_iload_n dX4_guesses_18 rfl ?_
    refine x_iadd dX4_guesses_19 ?_
    refine m_iald (n := 460) rfl rfl (by decide) (by omega) dX4_guesses_20 ?_
    refine x_iconst dX4_guesses_21 ?_
    refine x_icmp_eq (t := 29) dX4_guesses_22 (by decide) (by omega) (fun c_22 => ?_) (fun c_22 => ?_)
    · skip
      refine x_iconst dX4_guesses_29 ?_
      refine x_top (bi (I 369 (4 + k) ≠ -1)) (by first | exact (bi_t c_22).symm | exact (bi_f (fun z => z c_22)).symm) ?_
      refine m_cs1 (c_truth) fX4_truth q2327 (by decide) (Nat.le_of_ble_eq_true rfl) dX4_guesses_30 ?_
      refine x_iadd dX4_guesses_33 ?_
      rw [← hup]
      refine x_istore_n dX4_guesses_34 (by decide) ?_
      refine x_iinc dX4_guesses_35 rfl (by decide) ?_
      refine x_goto (t := 4) dX4_guesses_38 (by decide) ?_
      exact ih (k + 1) (by omega) (by omega)
    · skip
      refine x_iconst dX4_guesses_25 ?_
      refine x_goto (t := 30) dX4_guesses_26 (by decide) ?_
      refine x_top (bi (I 369 (4 + k) ≠ -1)) (by first | exact (bi_t c_22).symm | exact (bi_f (fun z => z c_22)).symm) ?_
      refine m_cs1 (c_truth) fX4_truth q2327 (by decide) (Nat.le_of_ble_eq_true rfl) dX4_guesses_30 ?_
      refine x_iadd dX4_guesses_33 ?_
      rw [← hup]
      refine x_istore_n dX4_guesses_34 (by decide) ?_
      refine x_iinc dX4_guesses_35 rfl (by decide) ?_
      refine x_goto (t := 4) dX4_guesses_38 (by decide) ?_
      exact ih (k + 1) (by omega) (by omega)
noncomputable def v_count (w : Int) (J : Nat → Int → Int) : Int :=
  if w = 0 then J 360 4 else if w = 1 then J 360 19 else if w = 2 then J 360 8 else if w = 3 then J 360 23 else if w = 4 then J 373 (J 360 23) else if w = 5 then J 360 26 else if w = 6 then J 369 0 else if w = 7 then J 369 1 else if w = 8 then J 369 2 else if w = 9 then J 360 12
  else if w = 10 then cnt (fun f => J 383 (20 * 0 + f) = f) (J 360 4) else if w = 11 then cnt (fun f => J 383 (20 * 1 + f) = f) (J 360 4) else if w = 12 then m_disp J else if w = 13 then cnt (fun f => J 369 (4 + f) ≠ -1) (J 360 4) else if w = 14 then J 369 3 else if w = 15 then J 360 17 else if w = 16 then J 360 41 else if w = 17 then J 360 1 else -1
theorem c_count {I : Nat → Int → Int} {w : Int} (hw : i32 w) (h : MI I) : mQ yX4_count cX4_count 2 (some FieldType.int) 6 [vR (some 360), vI w] I (QP I (v_count w)) := by
  have h4 := h.1.1.2.1
  refine mQ.of (by decide) rfl (Nat.le_of_ble_eq_true rfl) (fun G nx => ?_)
  refine x_ls (ls2 := [some (vR (some 360)), some (vI w)]) rfl ?_
  refine x_aload_n dX4_count_0 rfl ?_
  refine m_ew0 (c_lays h.1 h.2) fX4_lays q2398 (by decide) (Nat.le_of_ble_eq_true rfl) dX4_count_1 (fun I2 hI2 => ?_)
  have e4 := hI2.1.2 4 (by decide)
  have hLd := hI2.2.1
  have hgs := GsOK_eqx h.1.2.2.2.2.2.2 (hI2.1.1 369 (by decide) (by decide))
  have hre := hLd.re.1
  have h24 := hLd.re.2.2.2.1
  refine x_iload_n dX4_count_4 rfl ?_
  refine x_tsw (t := 197) dX4_count_5 (by decide) (by omega) (fun v_5 w_5 e_5 => ?_) (fun c_5 => ?_)
  · skip
    obtain h_5 | h_5 | h_5 | h_5 | h_5 | h_5 | h_5 | h_5 | h_5 | h_5 | h_5 | h_5 | h_5 | h_5 | h_5 | h_5 | h_5 | h_5 : v_5 = 0 ∨ v_5 = 1 ∨ v_5 = 2 ∨ v_5 = 3 ∨ v_5 = 4 ∨ v_5 = 5 ∨ v_5 = 6 ∨ v_5 = 7 ∨ v_5 = 8 ∨ v_5 = 9 ∨ v_5 = 10 ∨ v_5 = 11 ∨ v_5 = 12 ∨ v_5 = 13 ∨ v_5 = 14 ∨ v_5 = 15 ∨ v_5 = 16 ∨ v_5 = 17 := by omega
    · rw [h_5] at e_5
      rw [h_5]
      refine x_tswi (off := 87) (t := 92) dX4_count_5 (by decide) (by decide) rfl (by decide) ?_
      refine x_aload_n dX4_count_92 rfl ?_
      refine m_getI (kf := 4) 4 (by decide) rfl rfl q2119 rfl dX4_count_93 ?_
      refine x_iret rfl dX4_count_96 (Nat.le_refl _) (Nat.le_refl _) ?_
      exact ⟨_, rfl, rfl, _, rfl, hI2.keep, by first | (rw [e_5]; rfl) | (unfold v_count; repeat rw [if_neg (by omega)])⟩
    · rw [h_5] at e_5
      rw [h_5]
      refine x_tswi (off := 92) (t := 97) dX4_count_5 (by decide) (by decide) rfl (by decide) ?_
      refine x_aload_n dX4_count_97 rfl ?_
      refine m_getI (kf := 19) 19 (by decide) rfl rfl q2134 rfl dX4_count_98 ?_
      refine x_iret rfl dX4_count_101 (Nat.le_refl _) (Nat.le_refl _) ?_
      exact ⟨_, rfl, rfl, _, rfl, hI2.keep, by first | (rw [e_5]; rfl) | (unfold v_count; repeat rw [if_neg (by omega)])⟩
    · rw [h_5] at e_5
      rw [h_5]
      refine x_tswi (off := 97) (t := 102) dX4_count_5 (by decide) (by decide) rfl (by decide) ?_
      refine x_aload_n dX4_count_102 rfl ?_
      refine m_getI (kf := 8) 8 (by decide) rfl rfl q2123 rfl dX4_count_103 ?_
      refine x_iret rfl dX4_count_106 (Nat.le_refl _) (Nat.le_refl _) ?_
      exact ⟨_, rfl, rfl, _, rfl, hI2.keep, by first | (rw [e_5]; rfl) | (unfold v_count; repeat rw [if_neg (by omega)])⟩
    · rw [h_5] at e_5
      rw [h_5]
      refine x_tswi (off := 102) (t := 107) dX4_count_5 (by decide) (by decide) rfl (by decide) ?_
      refine x_aload_n dX4_count_107 rfl ?_
      refine m_getI (kf := 23) 23 (by decide) rfl rfl q2138 rfl dX4_count_108 ?_
      refine x_iret rfl dX4_count_111 (Nat.le_refl _) (Nat.le_refl _) ?_
      exact ⟨_, rfl, rfl, _, rfl, hI2.keep, by first | (rw [e_5]; rfl) | (unfold v_count; repeat rw [if_neg (by omega)])⟩
    · rw [h_5] at e_5
      rw [h_5]
      refine x_tswi (off := 107) (t := 112) dX4_count_5 (by decide) (by decide) rfl (by decide) ?_
      refine x_aload_n dX4_count_112 rfl ?_
      refine m_getA (kf := 21) 21 (a := 373) (by decide) rfl rfl q2136 rfl rfl dX4_count_113 ?_
      refine x_aload_n dX4_count_116 rfl ?_
      refine m_getI (kf := 23) 23 (by decide) rfl rfl q2138 rfl dX4_count_117 ?_
      refine m_iald (n := 25) rfl rfl (by decide) (by omega) dX4_count_120 ?_
      refine x_iret rfl dX4_count_121 (Nat.le_refl _) (Nat.le_refl _) ?_
      exact ⟨_, rfl, rfl, _, rfl, hI2.keep, by first | (rw [e_5]; rfl) | (unfold v_count; repeat rw [if_neg (by omega)])⟩
    · rw [h_5] at e_5
      rw [h_5]
      refine x_tswi (off := 117) (t := 122) dX4_count_5 (by decide) (by decide) rfl (by decide) ?_
      refine x_aload_n dX4_count_122 rfl ?_
      refine m_getI (kf := 26) 26 (by decide) rfl rfl q2141 rfl dX4_count_123 ?_
      refine x_iret rfl dX4_count_126 (Nat.le_refl _) (Nat.le_refl _) ?_
      exact ⟨_, rfl, rfl, _, rfl, hI2.keep, by first | (rw [e_5]; rfl) | (unfold v_count; repeat rw [if_neg (by omega)])⟩
    · rw [h_5] at e_5
      rw [h_5]
      refine x_tswi (off := 122) (t := 127) dX4_count_5 (by decide) (by decide) rfl (by decide) ?_
      refine x_aload_n dX4_count_127 rfl ?_
      refine m_getA (kf := 15) 15 (a := 369) (by decide) rfl rfl q2130 rfl rfl dX4_count_128 ?_
      refine x_iconst dX4_count_131 ?_
      refine m_iald (n := 460) rfl rfl (by decide) (by omega) dX4_count_132 ?_
      refine x_iret rfl dX4_count_133 (Nat.le_refl _) (Nat.le_refl _) ?_
      exact ⟨_, rfl, rfl, _, rfl, hI2.keep, by first | (rw [e_5]; rfl) | (unfold v_count; repeat rw [if_neg (by omega)])⟩
    · rw [h_5] at e_5
      rw [h_5]
      refine x_tswi (off := 129) (t := 134) dX4_count_5 (by decide) (by decide) rfl (by decide) ?_
      refine x_aload_n dX4_count_134 rfl ?_
      refine m_getA (kf := 15) 15 (a := 369) (by decide) rfl rfl q2130 rfl rfl dX4_count_135 ?_
      refine x_iconst dX4_count_138 ?_
      refine m_iald (n := 460) rfl rfl (by decide) (by omega) dX4_count_139 ?_
      refine x_iret rfl dX4_count_140 (Nat.le_refl _) (Nat.le_refl _) ?_
      exact ⟨_, rfl, rfl, _, rfl, hI2.keep, by first | (rw [e_5]; rfl) | (unfold v_count; repeat rw [if_neg (by omega)])⟩
    · rw [h_5] at e_5
      rw [h_5]
      refine x_tswi (off := 136) (t := 141) dX4_count_5 (by decide) (by decide) rfl (by decide) ?_
      refine x_aload_n dX4_count_141 rfl ?_
      refine m_getA (kf := 15) 15 (a := 369) (by decide) rfl rfl q2130 rfl rfl dX4_count_142 ?_
      refine x_iconst dX4_count_145 ?_
      refine m_iald (n := 460) rfl rfl (by decide) (by omega) dX4_count_146 ?_
      refine x_iret rfl dX4_count_147 (Nat.le_refl _) (Nat.le_refl _) ?_
      exact ⟨_, rfl, rfl, _, rfl, hI2.keep, by first | (rw [e_5]; rfl) | (unfold v_count; repeat rw [if_neg (by omega)])⟩
    · rw [h_5] at e_5
      rw [h_5]
      refine x_tswi (off := 143) (t := 148) dX4_count_5 (by decide) (by decide) rfl (by decide) ?_
      refine x_aload_n dX4_count_148 rfl ?_
      refine m_getI (kf := 12) 12 (by decide) rfl rfl q2127 rfl dX4_count_149 ?_
      refine x_iret rfl dX4_count_152 (Nat.le_refl _) (Nat.le_refl _) ?_
      exact ⟨_, rfl, rfl, _, rfl, hI2.keep, by first | (rw [e_5]; rfl) | (unfold v_count; repeat rw [if_neg (by omega)])⟩
    · rw [h_5] at e_5
      rw [h_5]
      refine x_tswi (off := 148) (t := 153) dX4_count_5 (by decide) (by decide) rfl (by decide) ?_
      refine x_aload_n dX4_count_153 rfl ?_
      refine x_iconst dX4_count_154 ?_
      refine m_cv1 (c_groups (by omega) hLd (by omega)) fX4_groups q2714 (by decide) (Nat.le_of_ble_eq_true rfl) dX4_count_155 ?_
      refine x_iret rfl dX4_count_158 (Nat.le_refl _) (Nat.le_refl _) ?_
      exact ⟨_, rfl, rfl, _, rfl, hI2.keep, by first | (rw [e_5]; rfl) | (unfold v_count; repeat rw [if_neg (by omega)])⟩
    · rw [h_5] at e_5
      rw [h_5]
      refine x_tswi (off := 154) (t := 159) dX4_count_5 (by decide) (by decide) rfl (by decide) ?_
      refine x_aload_n dX4_count_159 rfl ?_
      refine x_iconst dX4_count_160 ?_
      refine m_cv1 (c_groups (by omega) hLd (by omega)) fX4_groups q2714 (by decide) (Nat.le_of_ble_eq_true rfl) dX4_count_161 ?_
      refine x_iret rfl dX4_count_164 (Nat.le_refl _) (Nat.le_refl _) ?_
      exact ⟨_, rfl, rfl, _, rfl, hI2.keep, by first | (rw [e_5]; rfl) | (unfold v_count; repeat rw [if_neg (by omega)])⟩
    · rw [h_5] at e_5
      rw [h_5]
      refine x_tswi (off := 160) (t := 165) dX4_count_5 (by decide) (by decide) rfl (by decide) ?_
      refine x_aload_n dX4_count_165 rfl ?_
      refine m_cv0 (c_disputedMany (by omega) hLd hgs) fX4_disputedMany q2513 (by decide) (Nat.le_of_ble_eq_true rfl) dX4_count_166 ?_
      refine x_iret rfl dX4_count_169 (Nat.le_refl _) (Nat.le_refl _) ?_
      exact ⟨_, rfl, rfl, _, rfl, hI2.keep, by first | (rw [e_5]; rfl) | (unfold v_count; repeat rw [if_neg (by omega)])⟩
    · rw [h_5] at e_5
      rw [h_5]
      refine x_tswi (off := 165) (t := 170) dX4_count_5 (by decide) (by decide) rfl (by decide) ?_
      refine x_aload_n dX4_count_170 rfl ?_
      refine m_cv0 (c_guesses (by omega) hgs) fX4_guesses q2718 (by decide) (Nat.le_of_ble_eq_true rfl) dX4_count_171 ?_
      refine x_iret rfl dX4_count_174 (Nat.le_refl _) (Nat.le_refl _) ?_
      exact ⟨_, rfl, rfl, _, rfl, hI2.keep, by first | (rw [e_5]; rfl) | (unfold v_count; repeat rw [if_neg (by omega)])⟩
    · rw [h_5] at e_5
      rw [h_5]
      refine x_tswi (off := 170) (t := 175) dX4_count_5 (by decide) (by decide) rfl (by decide) ?_
      refine x_aload_n dX4_count_175 rfl ?_
      refine m_getA (kf := 15) 15 (a := 369) (by decide) rfl rfl q2130 rfl rfl dX4_count_176 ?_
      refine x_iconst dX4_count_179 ?_
      refine m_iald (n := 460) rfl rfl (by decide) (by omega) dX4_count_180 ?_
      refine x_iret rfl dX4_count_181 (Nat.le_refl _) (Nat.le_refl _) ?_
      exact ⟨_, rfl, rfl, _, rfl, hI2.keep, by first | (rw [e_5]; rfl) | (unfold v_count; repeat rw [if_neg (by omega)])⟩
    · rw [h_5] at e_5
      rw [h_5]
      refine x_tswi (off := 177) (t := 182) dX4_count_5 (by decide) (by decide) rfl (by decide) ?_
      refine x_aload_n dX4_count_182 rfl ?_
      refine m_getI (kf := 17) 17 (by decide) rfl rfl q2132 rfl dX4_count_183 ?_
      refine x_iret rfl dX4_count_186 (Nat.le_refl _) (Nat.le_refl _) ?_
      exact ⟨_, rfl, rfl, _, rfl, hI2.keep, by first | (rw [e_5]; rfl) | (unfold v_count; repeat rw [if_neg (by omega)])⟩
    · rw [h_5] at e_5
      rw [h_5]
      refine x_tswi (off := 182) (t := 187) dX4_count_5 (by decide) (by decide) rfl (by decide) ?_
      refine x_aload_n dX4_count_187 rfl ?_
      refine m_getI (kf := 41) 41 (by decide) rfl rfl q2156 rfl dX4_count_188 ?_
      refine x_iret rfl dX4_count_191 (Nat.le_refl _) (Nat.le_refl _) ?_
      exact ⟨_, rfl, rfl, _, rfl, hI2.keep, by first | (rw [e_5]; rfl) | (unfold v_count; repeat rw [if_neg (by omega)])⟩
    · rw [h_5] at e_5
      rw [h_5]
      refine x_tswi (off := 187) (t := 192) dX4_count_5 (by decide) (by decide) rfl (by decide) ?_
      refine x_aload_n dX4_count_192 rfl ?_
      refine m_getI (kf := 1) 1 (by decide) rfl rfl q2116 rfl dX4_count_193 ?_
      refine x_iret rfl dX4_count_196 (Nat.le_refl _) (Nat.le_refl _) ?_
      exact ⟨_, rfl, rfl, _, rfl, hI2.keep, by first | (rw [e_5]; rfl) | (unfold v_count; repeat rw [if_neg (by omega)])⟩
  · skip
    refine x_iconst dX4_count_197 ?_
    refine x_iret rfl dX4_count_198 (Nat.le_refl _) (Nat.le_refl _) ?_
    exact ⟨_, rfl, rfl, _, rfl, hI2.keep, by first | (rw [e_5]; rfl) | (unfold v_count; repeat rw [if_neg (by omega)])⟩
