/-! SYSTEM 6: judges, isToLeft -/
set_option maxRecDepth 100000
theorem xC.g {G : rr_G} {h : rr_H} {nx : Nat} {y : MethodName} {cc : ByteArray} {nL : Nat} {ret : Option FieldType} {d : Nat} {as : List rr_V} {r : rr_V} (hc : xC y cc nL ret d as (some r)) : gP G y cc nL ret d 0 0 as h nx (gEq r h nx) := rr_mono (hc G h nx) (fun r2 h2 n2 q => ⟨r, q.1, rfl, q.2.1, q.2.2.symm⟩)
section STO
variable {G : rr_G} {nx : Nat} {K N : Nat → Nat} {I I1 I2 J : Nat → Int → Int} {R : Nat → Int → Option Nat} {T s : Nat} {t r : Int}
def esR (J : Nat → Int → Int) (side t : Int) (s r : Int) : Int := itr (fun r s => rr_or s (rr_shl 1 (m_endOf J (4 * t + r) side))) 0 r s
def esT (J : Nat → Int → Int) (side t : Int) : Int := itr (fun t s => itr (fun r s => rr_or s (rr_shl 1 (m_endOf J (4 * t + r) side))) 0 (J 364 t) s) 0 t 0
theorem esT_up {side : Int} (h : 0 ≤ t) : esT J side (t + 1) = esR J side t (esT J side t) (J 364 t) := itr_up _ _ h
theorem esR_up {side z : Int} (h : 0 ≤ r) : esR J side t z (r + 1) = rr_or (esR J side t z r) (rr_shl 1 (m_endOf J (4 * t + r) side)) := itr_up _ _ h
theorem esR_0 {side z : Int} : esR J side t z 0 = z := itr_stop _ _ (Int.le_refl 0)
theorem esT_0 {side : Int} : esT J side 0 = 0 := itr_stop _ _ (Int.le_refl 0)
def JuP (I J : Nat → Int → Int) (I2 : Nat → Int → Int) : Prop := (∀ x, x ≠ 342 → I2 x = I x) ∧ I2 342 0 = m_judged J ∧ I2 342 1 = m_ragged J 0 ∧ I2 342 2 = m_ragged J 1 ∧ I2 342 3 = bcx (m_endSet J 0) ∧ I2 342 4 = bcx (m_endSet J 1)
theorem jc_judges (hs : Ss K N R) (ht : Td K N R T) (hS : Sto K N I R J T) (hok : StOK J) (hsg : ∀ f, 0 ≤ f → f < J 360 4 → I 332 f = J 371 f ∧ 0 ≤ J 371 f ∧ J 371 f < 20) : gW G yX0_judges cX0_judges 8 (none) 2 0 0 [vR (some 300)] (K, N, I, R) nx (gI K N R nx (JuP I J)) := by
  have hn332 : N 332 = 20 := hs.n 332 (by decide)
  have hn342 : N 342 = 5 := hs.n 342 (by decide)
  have hnT2 : N (T + 2) = 6 := ht.n 2 (by decide)
  have hm := hok.1
  have hf := hok.2.1
  have hT1 : I T 1 = J 360 8 := hS.1
  refine gW.of (by decide) rfl (Nat.le_of_ble_eq_true rfl) ?_
  refine x_ls (ls2 := [some (vR (some 300)), none, none, none, none, none, none, none]) rfl ?_
  refine x_iconst dX0_judges_0 ?_
  refine x_istore_n dX0_judges_1 (by decide) ?_
  refine x_iconst dX0_judges_2 ?_
  refine x_istore_n dX0_judges_3 (by decide) ?_
  refine x_iconst dX0_judges_4 ?_
  refine x_istore_n dX0_judges_5 (by decide) ?_
  refine x_iconst dX0_judges_6 ?_
  refine x_istore dX0_judges_7 (by decide) ?_
  refine x_iconst dX0_judges_9 ?_
  refine x_istore dX0_judges_10 (by decide) ?_
  refine x_loc (ls2 := [some (vR (some 300)), some (vI (esT J 0 0)), some (vI (esT J 1 0)), some (vI (cnt (rag J 0) 0)), some (vI (cnt (rag J 1) 0)), some (vI 0), none, none]) (by rw [esT_0, esT_0, cnt_0, cnt_0]; exact (by repeat first | exact trivial | refine ⟨Or.inr rfl, ?_⟩ | refine ⟨Or.inl rfl, ?_⟩)) ?_
  refine s_for (W := fun (t : Int) (z : Option rr_V × Option rr_V) => gw G yX0_judges cX0_judges 8 (none) 2 0 0 (gI K N R nx (JuP I J)) 12 [some (vR (some 300)), some (vI (esT J 0 t)), some (vI (esT J 1 t)), some (vI (cnt (rag J 0) t)), some (vI (cnt (rag J 1) t)), some (vI t), z.1, z.2] [] (K, N, I, R) nx 0 0) (fun _ _ => True) 0 (J 360 8) (none, none) (by omega) trivial ?_
  rintro t ⟨z1, z2⟩ h0 hq - ih
  simp only at ih ⊢
  have c0 := cnt_in (rag J 0) h0
  have c1 := cnt_in (rag J 1) h0
  refine x_iload dX0_judges_12 rfl ?_
  refine x_aload_n dX0_judges_14 rfl ?_
  refine g_getR 2 (r := some T) (ci := 1) (kf := 2) rfl (by decide) (by decide) rfl rfl q1307 rfl (hs.k 300 (by decide)) (ht.t) dX0_judges_15 ?_
  refine g_getIN 1 (ci := 3) (kf := 1) rfl (by decide) (by decide) rfl rfl q211 rfl (ht.k) dX0_judges_18 ?_
  rw [hT1]
  refine x_icmp_ge (t := 172) dX0_judges_21 (by decide) (by omega) (fun c_21 => ?_) (fun c_21 => ?_)
  · skip
    have htE : t = J 360 8 := by omega
    subst htE
    refine x_aload_n dX0_judges_172 rfl ?_
    refine g_getR 12 (r := some 342) (ci := 1) (kf := 12) rfl (by decide) (by decide) rfl rfl q1320 rfl (hs.k 300 (by decide)) (hs.r 12 (by decide)) dX0_judges_173 ?_
    refine x_iconst dX0_judges_176 ?_
    refine x_iload_n dX0_judges_177 rfl ?_
    refine g_iast (hs.k 342 (by decide)) (by decide) rfl (by omega) dX0_judges_178 ?_
    refine x_aload_n dX0_judges_179 rfl ?_
    refine g_getR 12 (r := some 342) (ci := 1) (kf := 12) rfl (by decide) (by decide) rfl rfl q1320 rfl (hs.k 300 (by decide)) (hs.r 12 (by decide)) dX0_judges_180 ?_
    refine x_iconst dX0_judges_183 ?_
    refine x_iload dX0_judges_184 rfl ?_
    refine g_iast (hs.k 342 (by decide)) (by decide) rfl (by omega) dX0_judges_186 ?_
    refine x_aload_n dX0_judges_187 rfl ?_
    refine g_getR 12 (r := some 342) (ci := 1) (kf := 12) rfl (by decide) (by decide) rfl rfl q1320 rfl (hs.k 300 (by decide)) (hs.r 12 (by decide)) dX0_judges_188 ?_
    refine x_iconst dX0_judges_191 ?_
    refine x_iload_n dX0_judges_192 rfl ?_
    refine g_cs1 (xc_bitCount.g) fJ4_bitCount q346 (by decide) (Nat.le_of_ble_eq_true rfl) (by omega) (by omega) dX0_judges_193 (fun v h2 n2 hp => ?_)
    obtain ⟨rfl, rfl, rfl⟩ := hp
    refine g_iast (hs.k 342 (by decide)) (by decide) rfl (by omega) dX0_judges_196 ?_
    refine x_aload_n dX0_judges_197 rfl ?_
    refine g_getR 12 (r := some 342) (ci := 1) (kf := 12) rfl (by decide) (by decide) rfl rfl q1320 rfl (hs.k 300 (by decide)) (hs.r 12 (by decide)) dX0_judges_198 ?_
    refine x_iconst dX0_judges_201 ?_
    refine x_iload_n dX0_judges_202 rfl ?_
    refine g_cs1 (xc_bitCount.g) fJ4_bitCount q346 (by decide) (Nat.le_of_ble_eq_true rfl) (by omega) (by omega) dX0_judges_203 (fun v h2 n2 hp => ?_)
    obtain ⟨rfl, rfl, rfl⟩ := hp
    refine g_iast (hs.k 342 (by decide)) (by decide) rfl (by omega) dX0_judges_206 ?_
    refine x_iload_n dX0_judges_207 rfl ?_
    refine x_iload dX0_judges_208 rfl ?_
    refine x_icmp_eq (t := 233) dX0_judges_210 (by decide) (by omega) (fun c_210 => ?_) (fun c_210 => ?_)
    · skip
      refine x_aload_n dX0_judges_233 rfl ?_
      refine g_getR 12 (r := some 342) (ci := 1) (kf := 12) rfl (by decide) (by decide) rfl rfl q1320 rfl (hs.k 300 (by decide)) (hs.r 12 (by decide)) dX0_judges_234 ?_
      refine x_iconst dX0_judges_237 ?_
      refine x_aload_n dX0_judges_238 rfl ?_
      refine g_getR 12 (r := some 342) (ci := 1) (kf := 12) rfl (by decide) (by decide) rfl rfl q1320 rfl (hs.k 300 (by decide)) (hs.r 12 (by decide)) dX0_judges_239 ?_
      refine x_iconst dX0_judges_242 ?_
      refine g_iald (hs.k 342 (by decide)) rfl (by omega) dX0_judges_243 ?_
      refine x_aload_n dX0_judges_244 rfl ?_
      refine g_getR 12 (r := some 342) (ci := 1) (kf := 12) rfl (by decide) (by decide) rfl rfl q1320 rfl (hs.k 300 (by decide)) (hs.r 12 (by decide)) dX0_judges_245 ?_
      refine x_iconst dX0_judges_248 ?_
      refine g_iald (hs.k 342 (by decide)) rfl (by omega) dX0_judges_249 ?_
      simp only [rr_u2_at, Int.reduceEq, if_true, if_false, reduceIte]
      have b0 := bcx_in (esT J 0 (J 360 8))
      have b1 := bcx_in (esT J 1 (J 360 8))
      refine x_icmp_gt (t := 257) dX0_judges_250 (by decide) (by omega) (fun c_250 => ?_) (fun c_250 => ?_)
      · skip
        refine x_iconst dX0_judges_257 ?_
        refine g_iast (hs.k 342 (by decide)) (by decide) rfl (by omega) dX0_judges_258 ?_
        refine gw_vret rfl dX0_judges_259 (by omega) (by omega) ?_
        refine ⟨rfl, _, rfl, fun x hx => by rw [rr_u2_of hx, rr_u2_of hx, rr_u2_of hx, rr_u2_of hx, rr_u2_of hx], ?_, ?_, ?_, ?_, ?_⟩ <;> simp only [rr_u2_at, Int.reduceEq, if_true, if_false, reduceIte]
        · have hj : m_judged J = if cnt (rag J 0) (J 360 8) ≠ cnt (rag J 1) (J 360 8) then (if cnt (rag J 1) (J 360 8) < cnt (rag J 0) (J 360 8) then 0 else 1) else if bcx (esT J 1 (J 360 8)) < bcx (esT J 0 (J 360 8)) then 1 else 0 := rfl
          rw [hj]
          split <;> (try split) <;> omega
        · rfl
        · rfl
        · rfl
        · rfl
      · skip
        refine x_iconst dX0_judges_253 ?_
        refine x_goto (t := 258) dX0_judges_254 (by decide) ?_
        refine g_iast (hs.k 342 (by decide)) (by decide) rfl (by omega) dX0_judges_258 ?_
        refine gw_vret rfl dX0_judges_259 (by omega) (by omega) ?_
        refine ⟨rfl, _, rfl, fun x hx => by rw [rr_u2_of hx, rr_u2_of hx, rr_u2_of hx, rr_u2_of hx, rr_u2_of hx], ?_, ?_, ?_, ?_, ?_⟩ <;> simp only [rr_u2_at, Int.reduceEq, if_true, if_false, reduceIte]
        · have hj : m_judged J = if cnt (rag J 0) (J 360 8) ≠ cnt (rag J 1) (J 360 8) then (if cnt (rag J 1) (J 360 8) < cnt (rag J 0) (J 360 8) then 0 else 1) else if bcx (esT J 1 (J 360 8)) < bcx (esT J 0 (J 360 8)) then 1 else 0 := rfl
          rw [hj]
          split <;> (try split) <;> omega
        · rfl
        · rfl
        · rfl
        · rfl
    · skip
      refine x_aload_n dX0_judges_213 rfl ?_
      refine g_getR 12 (r := some 342) (ci := 1) (kf := 12) rfl (by decide) (by decide) rfl rfl q1320 rfl (hs.k 300 (by decide)) (hs.r 12 (by decide)) dX0_judges_214 ?_
      refine x_iconst dX0_judges_217 ?_
      refine x_iload_n dX0_judges_218 rfl ?_
      refine x_iload dX0_judges_219 rfl ?_
      refine x_icmp_le (t := 228) dX0_judges_221 (by decide) (by omega) (fun c_221 => ?_) (fun c_221 => ?_)
      · skip
        refine x_iconst dX0_judges_228 ?_
        refine g_iast (hs.k 342 (by decide)) (by decide) rfl (by omega) dX0_judges_229 ?_
        refine x_goto (t := 259) dX0_judges_230 (by decide) ?_
        refine gw_vret rfl dX0_judges_259 (by omega) (by omega) ?_
        refine ⟨rfl, _, rfl, fun x hx => by rw [rr_u2_of hx, rr_u2_of hx, rr_u2_of hx, rr_u2_of hx, rr_u2_of hx], ?_, ?_, ?_, ?_, ?_⟩ <;> simp only [rr_u2_at, Int.reduceEq, if_true, if_false, reduceIte]
        · have hj : m_judged J = if cnt (rag J 0) (J 360 8) ≠ cnt (rag J 1) (J 360 8) then (if cnt (rag J 1) (J 360 8) < cnt (rag J 0) (J 360 8) then 0 else 1) else if bcx (esT J 1 (J 360 8)) < bcx (esT J 0 (J 360 8)) then 1 else 0 := rfl
          rw [hj]
          split <;> (try split) <;> omega
        · rfl
        · rfl
        · rfl
        · rfl
      · skip
        refine x_iconst dX0_judges_224 ?_
        refine x_goto (t := 229) dX0_judges_225 (by decide) ?_
        refine g_iast (hs.k 342 (by decide)) (by decide) rfl (by omega) dX0_judges_229 ?_
        refine x_goto (t := 259) dX0_judges_230 (by decide) ?_
        refine gw_vret rfl dX0_judges_259 (by omega) (by omega) ?_
        refine ⟨rfl, _, rfl, fun x hx => by rw [rr_u2_of hx, rr_u2_of hx, rr_u2_of hx, rr_u2_of hx, rr_u2_of hx], ?_, ?_, ?_, ?_, ?_⟩ <;> simp only [rr_u2_at, Int.reduceEq, if_true, if_false, reduceIte]
        · have hj : m_judged J = if cnt (rag J 0) (J 360 8) ≠ cnt (rag J 1) (J 360 8) then (if cnt (rag J 1) (J 360 8) < cnt (rag J 0) (J 360 8) then 0 else 1) else if bcx (esT J 1 (J 360 8)) < bcx (esT J 0 (J 360 8)) then 1 else 0 := rfl
          rw [hj]
          split <;> (try split) <;> omega
        · rfl
        · rfl
        · rfl
        · rfl
  · skip
    obtain ⟨s, hs1, hs2⟩ := hS.2 t h0 (by omega)
    obtain ⟨hrw, hro⟩ := hok.2.2 t h0 (by omega)
    have hKs : K s = 4 := hs2.1.1
    have hI1 : I s 1 = J 364 t := hs2.2.1
    refine x_aload_n dX0_judges_24 rfl ?_
    refine g_getR 2 (r := some T) (ci := 1) (kf := 2) rfl (by decide) (by decide) rfl rfl q1307 rfl (hs.k 300 (by decide)) (ht.t) dX0_judges_25 ?_
    refine g_getRN 7 (r := some (T + 2)) (ci := 3) (kf := 7) rfl (by decide) (by decide) rfl rfl q223 rfl (ht.k) (ht.r 7 (by decide)) dX0_judges_28 ?_
    refine x_iload dX0_judges_31 rfl ?_
    refine g_aald (t := 4) (r := some (s)) rfl rfl rfl (ht.a 2 (by decide)) rfl (by omega) (hs1) dX0_judges_33 ?_
    refine x_astore dX0_judges_34 (by decide) ?_
    refine x_iconst dX0_judges_36 ?_
    refine x_istore dX0_judges_37 (by decide) ?_
    refine x_loc (ls2 := [some (vR (some 300)), some (vI (esR J 0 t (esT J 0 t) 0)), some (vI (esR J 1 t (esT J 1 t) 0)), some (vI (cnt (rag J 0) t)), some (vI (cnt (rag J 1) t)), some (vI t), some (vR (some s)), some (vI 0)]) (by rw [esR_0, esR_0]; exact (by repeat first | exact trivial | refine ⟨Or.inr rfl, ?_⟩ | refine ⟨Or.inl rfl, ?_⟩)) ?_
    refine s_for0 (W := fun (r : Int) => gw G yX0_judges cX0_judges 8 (none) 2 0 0 (gI K N R nx (JuP I J)) 39 [some (vR (some 300)), some (vI (esR J 0 t (esT J 0 t) r)), some (vI (esR J 1 t (esT J 1 t) r)), some (vI (cnt (rag J 0) t)), some (vI (cnt (rag J 1) t)), some (vI t), some (vR (some s)), some (vI r)] [] (K, N, I, R) nx 0 0) 0 (J 364 t) (by omega) ?_
    intro r hr0 hr1 ih2
    refine x_iload dX0_judges_39 rfl ?_
    refine x_aload dX0_judges_41 rfl ?_
    refine g_getIN 1 (ci := 4) (kf := 1) rfl (by decide) (by decide) rfl rfl q1684 rfl (by first | assumption | grind) dX0_judges_43 ?_
    rw [hI1]
    refine x_icmp_ge (t := 91) dX0_judges_46 (by decide) (by omega) (fun c_46 => ?_) (fun c_46 => ?_)
    · skip
      have hre : r = J 364 t := by omega
      subst hre
      have hrk := hro (J 364 t - 1) (by omega) (by omega)
      have li := lft_in hrk
      have ri := rgt_in hrk
      have r0 : rag J 0 t ↔ (1 < J 364 t ∧ lft J (4 * t + (J 364 t - 1)) < rgt J (4 * t + (J 364 t - 1))) := by
        unfold rag; rw [if_pos rfl, show 4 * t + J 364 t - 1 = 4 * t + (J 364 t - 1) by omega]
      have r1 : rag J 1 t ↔ (1 < J 364 t ∧ rgt J (4 * t + (J 364 t - 1)) < lft J (4 * t + (J 364 t - 1))) := by
        unfold rag; rw [if_neg (by decide), show 4 * t + J 364 t - 1 = 4 * t + (J 364 t - 1) by omega]
      have hl365 := hrk.1
      refine x_aload dX0_judges_91 rfl ?_
      refine x_aload dX0_judges_93 rfl ?_
      refine g_getIN 1 (ci := 4) (kf := 1) rfl (by decide) (by decide) rfl rfl q1684 rfl (by first | assumption | grind) dX0_judges_95 ?_
      rw [hI1]
      refine x_iconst dX0_judges_98 ?_
      refine x_isub dX0_judges_99 ?_
      refine x_iconst dX0_judges_100 ?_
      refine g_cv2 (ci := 4) (jc_empty1 hs2 ⟨by omega, by omega⟩ hrw.2 hf.2 hrk) fX8_empty q345 rfl (by decide) (by first | assumption | grind) (by decide) (Nat.le_of_ble_eq_true rfl) (by omega) (by omega) dX0_judges_101 (fun v h2 n2 hp => ?_)
      obtain ⟨rfl, rfl, rfl⟩ := hp
      refine x_aload dX0_judges_104 rfl ?_
      refine x_aload dX0_judges_106 rfl ?_
      refine g_getIN 1 (ci := 4) (kf := 1) rfl (by decide) (by decide) rfl rfl q1684 rfl (by first | assumption | grind) dX0_judges_108 ?_
      rw [hI1]
      refine x_iconst dX0_judges_111 ?_
      refine x_isub dX0_judges_112 ?_
      refine x_iconst dX0_judges_113 ?_
      refine g_cv2 (ci := 4) (jc_empty0 hs2 ⟨by omega, by omega⟩ hrw.2 hf.2 hrk) fX8_empty q345 rfl (by decide) (by first | assumption | grind) (by decide) (Nat.le_of_ble_eq_true rfl) (by omega) (by omega) dX0_judges_114 (fun v h2 n2 hp => ?_)
      obtain ⟨rfl, rfl, rfl⟩ := hp
      refine x_isub dX0_judges_117 ?_
      refine x_istore dX0_judges_118 (by decide) ?_
      refine x_iload_n dX0_judges_120 rfl ?_
      refine x_aload dX0_judges_121 rfl ?_
      refine g_getIN 1 (ci := 4) (kf := 1) rfl (by decide) (by decide) rfl rfl q1684 rfl (by first | assumption | grind) dX0_judges_123 ?_
      rw [hI1]
      refine x_iconst dX0_judges_126 ?_
      refine x_icmp_le (t := 139) dX0_judges_127 (by decide) (by omega) (fun c_127 => ?_) (fun c_127 => ?_)
      · skip
        refine x_iconst dX0_judges_139 ?_
        refine x_iadd dX0_judges_140 ?_
        refine x_top (cnt (rag J 0) (t + 1)) (by rw [cnt_up _ h0]; first | (exfalso; omega) | rw [bi_t (r0.mpr (by omega))] | rw [bi_f (fun q => by have := r0.mp q; omega)]) ?_
        refine x_istore_n dX0_judges_141 (by decide) ?_
        refine x_iload dX0_judges_142 rfl ?_
        refine x_aload dX0_judges_144 rfl ?_
        refine g_getIN 1 (ci := 4) (kf := 1) rfl (by decide) (by decide) rfl rfl q1684 rfl (by first | assumption | grind) dX0_judges_146 ?_
        rw [hI1]
        refine x_iconst dX0_judges_149 ?_
        refine x_icmp_le (t := 162) dX0_judges_150 (by decide) (by omega) (fun c_150 => ?_) (fun c_150 => ?_)
        · skip
          refine x_iconst dX0_judges_162 ?_
          refine x_iadd dX0_judges_163 ?_
          refine x_top (cnt (rag J 1) (t + 1)) (by rw [cnt_up _ h0]; first | (exfalso; omega) | rw [bi_t (r1.mpr (by omega))] | rw [bi_f (fun q => by have := r1.mp q; omega)]) ?_
          refine x_istore dX0_judges_164 (by decide) ?_
          refine x_iinc dX0_judges_166 rfl (by decide) ?_
          refine x_goto (t := 12) dX0_judges_169 (by decide) ?_
          refine x_loc (ls2 := [some (vR (some 300)), some (vI (esT J 0 (t + 1))), some (vI (esT J 1 (t + 1))), some (vI (cnt (rag J 0) (t + 1))), some (vI (cnt (rag J 1) (t + 1))), some (vI (t + 1)), some (vR (some s)), _]) (by rw [esT_up h0, esT_up h0]; exact (by repeat first | exact trivial | refine ⟨Or.inr rfl, ?_⟩ | refine ⟨Or.inl rfl, ?_⟩)) (ih (_, _) (by omega) trivial)
        · skip
          refine x_iload dX0_judges_153 rfl ?_
          refine x_if_ge (t := 162) dX0_judges_155 (by decide) (by omega) (fun c_155 => ?_) (fun c_155 => ?_)
          · skip
            refine x_iconst dX0_judges_162 ?_
            refine x_iadd dX0_judges_163 ?_
            refine x_top (cnt (rag J 1) (t + 1)) (by rw [cnt_up _ h0]; first | (exfalso; omega) | rw [bi_t (r1.mpr (by omega))] | rw [bi_f (fun q => by have := r1.mp q; omega)]) ?_
            refine x_istore dX0_judges_164 (by decide) ?_
            refine x_iinc dX0_judges_166 rfl (by decide) ?_
            refine x_goto (t := 12) dX0_judges_169 (by decide) ?_
            refine x_loc (ls2 := [some (vR (some 300)), some (vI (esT J 0 (t + 1))), some (vI (esT J 1 (t + 1))), some (vI (cnt (rag J 0) (t + 1))), some (vI (cnt (rag J 1) (t + 1))), some (vI (t + 1)), some (vR (some s)), _]) (by rw [esT_up h0, esT_up h0]; exact (by repeat first | exact trivial | refine ⟨Or.inr rfl, ?_⟩ | refine ⟨Or.inl rfl, ?_⟩)) (ih (_, _) (by omega) trivial)
          · skip
            refine x_iconst dX0_judges_158 ?_
            refine x_goto (t := 163) dX0_judges_159 (by decide) ?_
            refine x_iadd dX0_judges_163 ?_
            refine x_top (cnt (rag J 1) (t + 1)) (by rw [cnt_up _ h0]; first | (exfalso; omega) | rw [bi_t (r1.mpr (by omega))] | rw [bi_f (fun q => by have := r1.mp q; omega)]) ?_
            refine x_istore dX0_judges_164 (by decide) ?_
            refine x_iinc dX0_judges_166 rfl (by decide) ?_
            refine x_goto (t := 12) dX0_judges_169 (by decide) ?_
            refine x_loc (ls2 := [some (vR (some 300)), some (vI (esT J 0 (t + 1))), some (vI (esT J 1 (t + 1))), some (vI (cnt (rag J 0) (t + 1))), some (vI (cnt (rag J 1) (t + 1))), some (vI (t + 1)), some (vR (some s)), _]) (by rw [esT_up h0, esT_up h0]; exact (by repeat first | exact trivial | refine ⟨Or.inr rfl, ?_⟩ | refine ⟨Or.inl rfl, ?_⟩)) (ih (_, _) (by omega) trivial)
      · skip
        refine x_iload dX0_judges_130 rfl ?_
        refine x_if_le (t := 139) dX0_judges_132 (by decide) (by omega) (fun c_132 => ?_) (fun c_132 => ?_)
        · skip
          refine x_iconst dX0_judges_139 ?_
          refine x_iadd dX0_judges_140 ?_
          refine x_top (cnt (rag J 0) (t + 1)) (by rw [cnt_up _ h0]; first | (exfalso; omega) | rw [bi_t (r0.mpr (by omega))] | rw [bi_f (fun q => by have := r0.mp q; omega)]) ?_
          refine x_istore_n dX0_judges_141 (by decide) ?_
          refine x_iload dX0_judges_142 rfl ?_
          refine x_aload dX0_judges_144 rfl ?_
          refine g_getIN 1 (ci := 4) (kf := 1) rfl (by decide) (by decide) rfl rfl q1684 rfl (by first | assumption | grind) dX0_judges_146 ?_
          rw [hI1]
          refine x_iconst dX0_judges_149 ?_
          refine x_icmp_le (t := 162) dX0_judges_150 (by decide) (by omega) (fun c_150 => ?_) (fun c_150 => ?_)
          · skip
            refine x_iconst dX0_judges_162 ?_
            refine x_iadd dX0_judges_163 ?_
            refine x_top (cnt (rag J 1) (t + 1)) (by rw [cnt_up _ h0]; first | (exfalso; omega) | rw [bi_t (r1.mpr (by omega))] | rw [bi_f (fun q => by have := r1.mp q; omega)]) ?_
            refine x_istore dX0_judges_164 (by decide) ?_
            refine x_iinc dX0_judges_166 rfl (by decide) ?_
            refine x_goto (t := 12) dX0_judges_169 (by decide) ?_
            refine x_loc (ls2 := [some (vR (some 300)), some (vI (esT J 0 (t + 1))), some (vI (esT J 1 (t + 1))), some (vI (cnt (rag J 0) (t + 1))), some (vI (cnt (rag J 1) (t + 1))), some (vI (t + 1)), some (vR (some s)), _]) (by rw [esT_up h0, esT_up h0]; exact (by repeat first | exact trivial | refine ⟨Or.inr rfl, ?_⟩ | refine ⟨Or.inl rfl, ?_⟩)) (ih (_, _) (by omega) trivial)
          · skip
            refine x_iload dX0_judges_153 rfl ?_
            refine x_if_ge (t := 162) dX0_judges_155 (by decide) (by omega) (fun c_155 => ?_) (fun c_155 => ?_)
            · skip
              refine x_iconst dX0_judges_162 ?_
              refine x_iadd dX0_judges_163 ?_
              refine x_top (cnt (rag J 1) (t + 1)) (by rw [cnt_up _ h0]; first | (exfalso; omega) | rw [bi_t (r1.mpr (by omega))] | rw [bi_f (fun q => by have := r1.mp q; omega)]) ?_
              refine x_istore dX0_judges_164 (by decide) ?_
              refine x_iinc dX0_judges_166 rfl (by decide) ?_
              refine x_goto (t := 12) dX0_judges_169 (by decide) ?_
              refine x_loc (ls2 := [some (vR (some 300)), some (vI (esT J 0 (t + 1))), some (vI (esT J 1 (t + 1))), some (vI (cnt (rag J 0) (t + 1))), some (vI (cnt (rag J 1) (t + 1))), some (vI (t + 1)), some (vR (some s)), _]) (by rw [esT_up h0, esT_up h0]; exact (by repeat first | exact trivial | refine ⟨Or.inr rfl, ?_⟩ | refine ⟨Or.inl rfl, ?_⟩)) (ih (_, _) (by omega) trivial)
            · skip
              refine x_iconst dX0_judges_158 ?_
              refine x_goto (t := 163) dX0_judges_159 (by decide) ?_
              refine x_iadd dX0_judges_163 ?_
              refine x_top (cnt (rag J 1) (t + 1)) (by rw [cnt_up _ h0]; first | (exfalso; omega) | rw [bi_t (r1.mpr (by omega))] | rw [bi_f (fun q => by have := r1.mp q; omega)]) ?_
              refine x_istore dX0_judges_164 (by decide) ?_
              refine x_iinc dX0_judges_166 rfl (by decide) ?_
              refine x_goto (t := 12) dX0_judges_169 (by decide) ?_
              refine x_loc (ls2 := [some (vR (some 300)), some (vI (esT J 0 (t + 1))), some (vI (esT J 1 (t + 1))), some (vI (cnt (rag J 0) (t + 1))), some (vI (cnt (rag J 1) (t + 1))), some (vI (t + 1)), some (vR (some s)), _]) (by rw [esT_up h0, esT_up h0]; exact (by repeat first | exact trivial | refine ⟨Or.inr rfl, ?_⟩ | refine ⟨Or.inl rfl, ?_⟩)) (ih (_, _) (by omega) trivial)
        · skip
          refine x_iconst dX0_judges_135 ?_
          refine x_goto (t := 140) dX0_judges_136 (by decide) ?_
          refine x_iadd dX0_judges_140 ?_
          refine x_top (cnt (rag J 0) (t + 1)) (by rw [cnt_up _ h0]; first | (exfalso; omega) | rw [bi_t (r0.mpr (by omega))] | rw [bi_f (fun q => by have := r0.mp q; omega)]) ?_
          refine x_istore_n dX0_judges_141 (by decide) ?_
          refine x_iload dX0_judges_142 rfl ?_
          refine x_aload dX0_judges_144 rfl ?_
          refine g_getIN 1 (ci := 4) (kf := 1) rfl (by decide) (by decide) rfl rfl q1684 rfl (by first | assumption | grind) dX0_judges_146 ?_
          rw [hI1]
          refine x_iconst dX0_judges_149 ?_
          refine x_icmp_le (t := 162) dX0_judges_150 (by decide) (by omega) (fun c_150 => ?_) (fun c_150 => ?_)
          · skip
            refine x_iconst dX0_judges_162 ?_
            refine x_iadd dX0_judges_163 ?_
            refine x_top (cnt (rag J 1) (t + 1)) (by rw [cnt_up _ h0]; first | (exfalso; omega) | rw [bi_t (r1.mpr (by omega))] | rw [bi_f (fun q => by have := r1.mp q; omega)]) ?_
            refine x_istore dX0_judges_164 (by decide) ?_
            refine x_iinc dX0_judges_166 rfl (by decide) ?_
            refine x_goto (t := 12) dX0_judges_169 (by decide) ?_
            refine x_loc (ls2 := [some (vR (some 300)), some (vI (esT J 0 (t + 1))), some (vI (esT J 1 (t + 1))), some (vI (cnt (rag J 0) (t + 1))), some (vI (cnt (rag J 1) (t + 1))), some (vI (t + 1)), some (vR (some s)), _]) (by rw [esT_up h0, esT_up h0]; exact (by repeat first | exact trivial | refine ⟨Or.inr rfl, ?_⟩ | refine ⟨Or.inl rfl, ?_⟩)) (ih (_, _) (by omega) trivial)
          · skip
            refine x_iload dX0_judges_153 rfl ?_
            refine x_if_ge (t := 162) dX0_judges_155 (by decide) (by omega) (fun c_155 => ?_) (fun c_155 => ?_)
            · skip
              refine x_iconst dX0_judges_162 ?_
              refine x_iadd dX0_judges_163 ?_
              refine x_top (cnt (rag J 1) (t + 1)) (by rw [cnt_up _ h0]; first | (exfalso; omega) | rw [bi_t (r1.mpr (by omega))] | rw [bi_f (fun q => by have := r1.mp q; omega)]) ?_
              refine x_istore dX0_judges_164 (by decide) ?_
              refine x_iinc dX0_judges_166 rfl (by decide) ?_
              refine x_goto (t := 12) dX0_judges_169 (by decide) ?_
              refine x_loc (ls2 := [some (vR (some 300)), some (vI (esT J 0 (t + 1))), some (vI (esT J 1 (t + 1))), some (vI (cnt (rag J 0) (t + 1))), some (vI (cnt (rag J 1) (t + 1))), some (vI (t + 1)), some (vR (some s)), _]) (by rw [esT_up h0, esT_up h0]; exact (by repeat first | exact trivial | refine ⟨Or.inr rfl, ?_⟩ | refine ⟨Or.inl rfl, ?_⟩)) (ih (_, _) (by omega) trivial)
            · skip
              refine x_iconst dX0_judges_158 ?_
              refine x_goto (t := 163) dX0_judges_159 (by decide) ?_
              refine x_iadd dX0_judges_163 ?_
              refine x_top (cnt (rag J 1) (t + 1)) (by rw [cnt_up _ h0]; first | (exfalso; omega) | rw [bi_t (r1.mpr (by omega))] | rw [bi_f (fun q => by have := r1.mp q; omega)]) ?_
              refine x_istore dX0_judges_164 (by decide) ?_
              refine x_iinc dX0_judges_166 rfl (by decide) ?_
              refine x_goto (t := 12) dX0_judges_169 (by decide) ?_
              refine x_loc (ls2 := [some (vR (some 300)), some (vI (esT J 0 (t + 1))), some (vI (esT J 1 (t + 1))), some (vI (cnt (rag J 0) (t + 1))), some (vI (cnt (rag J 1) (t + 1))), some (vI (t + 1)), some (vR (some s)), _]) (by rw [esT_up h0, esT_up h0]; exact (by repeat first | exact trivial | refine ⟨Or.inr rfl, ?_⟩ | refine ⟨Or.inl rfl, ?_⟩)) (ih (_, _) (by omega) trivial)
    · skip
      have hrk := hro r hr0 (by omega)
      have li := lft_in hrk
      have ri := rgt_in hrk
      have l1 := hrk.2.1 (endK J (4 * t + r) 0) (by unfold endK; rw [if_pos rfl]; omega) (by unfold endK; rw [if_pos rfl]; omega)
      have l0 := hrk.2.1 (endK J (4 * t + r) 1) (by unfold endK; rw [if_neg (by decide)]; omega) (by unfold endK; rw [if_neg (by decide)]; omega)
      have n1 : J 366 (10 * (4 * t + r) + endK J (4 * t + r) 0) ≠ -1 := by have := ri.2; unfold endK; rw [if_pos rfl]; rwa [show 10 * (4 * t + r) + (J 365 (4 * t + r) - 1 - rgt J (4 * t + r)) = 10 * (4 * t + r) + J 365 (4 * t + r) - 1 - rgt J (4 * t + r) by omega]
      have n0 : J 366 (10 * (4 * t + r) + endK J (4 * t + r) 1) ≠ -1 := by have := li.2; unfold endK; rw [if_neg (by decide)]; exact this
      have g1 := hsg _ (show 0 ≤ J 366 (10 * (4 * t + r) + endK J (4 * t + r) 0) by omega) (by omega)
      have g0 := hsg _ (show 0 ≤ J 366 (10 * (4 * t + r) + endK J (4 * t + r) 1) by omega) (by omega)
      refine x_iload_n dX0_judges_49 rfl ?_
      refine x_iconst dX0_judges_50 ?_
      refine x_aload_n dX0_judges_51 rfl ?_
      refine g_getR 8 (r := some 332) (ci := 1) (kf := 8) rfl (by decide) (by decide) rfl rfl q1316 rfl (hs.k 300 (by decide)) (hs.r 8 (by decide)) dX0_judges_52 ?_
      refine x_aload dX0_judges_55 rfl ?_
      refine x_iload dX0_judges_57 rfl ?_
      refine x_iconst dX0_judges_59 ?_
      refine g_cv2 (ci := 4) (jc_end1 hs2 ⟨hr0, by omega⟩ hrw.2 hf.2 hrk) fX8_end q337 rfl (by decide) (by first | assumption | grind) (by decide) (Nat.le_of_ble_eq_true rfl) (by omega) (by omega) dX0_judges_60 (fun v h2 n2 hp => ?_)
      obtain ⟨rfl, rfl, rfl⟩ := hp
      refine g_iald (hs.k 332 (by decide)) rfl (by omega) dX0_judges_63 ?_
      rw [g1.1]
      refine x_ishl dX0_judges_64 ?_
      refine x_ior dX0_judges_65 ?_
      refine x_istore_n dX0_judges_66 (by decide) ?_
      refine x_iload_n dX0_judges_67 rfl ?_
      refine x_iconst dX0_judges_68 ?_
      refine x_aload_n dX0_judges_69 rfl ?_
      refine g_getR 8 (r := some 332) (ci := 1) (kf := 8) rfl (by decide) (by decide) rfl rfl q1316 rfl (hs.k 300 (by decide)) (hs.r 8 (by decide)) dX0_judges_70 ?_
      refine x_aload dX0_judges_73 rfl ?_
      refine x_iload dX0_judges_75 rfl ?_
      refine x_iconst dX0_judges_77 ?_
      refine g_cv2 (ci := 4) (jc_end0 hs2 ⟨hr0, by omega⟩ hrw.2 hf.2 hrk) fX8_end q337 rfl (by decide) (by first | assumption | grind) (by decide) (Nat.le_of_ble_eq_true rfl) (by omega) (by omega) dX0_judges_78 (fun v h2 n2 hp => ?_)
      obtain ⟨rfl, rfl, rfl⟩ := hp
      refine g_iald (hs.k 332 (by decide)) rfl (by omega) dX0_judges_81 ?_
      rw [g0.1]
      refine x_ishl dX0_judges_82 ?_
      refine x_ior dX0_judges_83 ?_
      refine x_istore_n dX0_judges_84 (by decide) ?_
      refine x_iinc dX0_judges_85 rfl (by decide) ?_
      refine x_goto (t := 39) dX0_judges_88 (by decide) ?_
      refine x_loc (ls2 := [some (vR (some 300)), some (vI (esR J 0 t (esT J 0 t) (r + 1))), some (vI (esR J 1 t (esT J 1 t) (r + 1))), some (vI (cnt (rag J 0) t)), some (vI (cnt (rag J 1) t)), some (vI t), some (vR (some s)), some (vI (r + 1))]) (by rw [esR_up hr0, esR_up hr0]; exact (by repeat first | exact trivial | refine ⟨Or.inr rfl, ?_⟩ | refine ⟨Or.inl rfl, ?_⟩)) (ih2 (by omega))
theorem jc_isToLeft (hs : Ss K N R) (ht : Td K N R T) (hw : I T 4 = J 369 1) (hwy : way J) (hj : I 342 0 = m_judged J) (hr : 0 ≤ r ∧ r < 4) : gP G yX0_isToLeft cX0_isToLeft 2 ((some FieldType.boolean)) 0 0 0 [vR (some 300), vI r] (K, N, I, R) nx (gEq (vI (bi (toLeft (m_by J) r.toNat))) (K, N, I, R) nx) := by
  have hn342 : N 342 = 5 := hs.n 342 (by decide)
  have hw2 : 0 ≤ J 369 1 ∧ J 369 1 ≤ 3 := hwy
  have hjr : m_judged J = 0 ∨ m_judged J = 1 := by
    unfold m_judged; split <;> split <;> simp
  have e : m_by J = if J 369 1 = 3 then m_judged J else J 369 1 := rfl
  have hl : toLeft (m_by J) r.toNat ↔ (m_by J = 1 ∨ (m_by J = 2 ∧ r % 2 = 1)) := by
    unfold toLeft; rw [show ((r.toNat : Nat) : Int) = r by omega]
  have hmod : r.tmod 2 = r % 2 := Int.tmod_eq_emod_of_nonneg hr.1
  refine gP.of (by decide) rfl (Nat.le_of_ble_eq_true rfl) ?_
  refine x_ls (ls2 := [some (vR (some 300)), some (vI r)]) rfl ?_
  refine x_aload_n dX0_isToLeft_0 rfl ?_
  refine g_getR 2 (r := some T) (ci := 1) (kf := 2) rfl (by decide) (by decide) rfl rfl q1307 rfl (hs.k 300 (by decide)) (ht.t) dX0_isToLeft_1 ?_
  refine g_getIN 4 (ci := 3) (kf := 4) rfl (by decide) (by decide) rfl rfl q216 rfl (ht.k) dX0_isToLeft_4 ?_
  refine x_iconst dX0_isToLeft_7 ?_
  rw [hw]
  refine x_icmp_ne (t := 29) dX0_isToLeft_8 (by decide) (by omega) (fun c_8 => ?_) (fun c_8 => ?_)
  · skip
    rw [if_neg c_8] at e
    refine x_aload_n dX0_isToLeft_29 rfl ?_
    refine g_getR 2 (r := some T) (ci := 1) (kf := 2) rfl (by decide) (by decide) rfl rfl q1307 rfl (hs.k 300 (by decide)) (ht.t) dX0_isToLeft_30 ?_
    refine g_getIN 4 (ci := 3) (kf := 4) rfl (by decide) (by decide) rfl rfl q216 rfl (ht.k) dX0_isToLeft_33 ?_
    refine x_iconst dX0_isToLeft_36 ?_
    rw [hw]
    refine x_icmp_ne (t := 55) dX0_isToLeft_37 (by decide) (by omega) (fun c_37 => ?_) (fun c_37 => ?_)
    · skip
      refine x_aload_n dX0_isToLeft_55 rfl ?_
      refine g_getR 2 (r := some T) (ci := 1) (kf := 2) rfl (by decide) (by decide) rfl rfl q1307 rfl (hs.k 300 (by decide)) (ht.t) dX0_isToLeft_56 ?_
      refine g_getIN 4 (ci := 3) (kf := 4) rfl (by decide) (by decide) rfl rfl q216 rfl (ht.k) dX0_isToLeft_59 ?_
      refine x_iconst dX0_isToLeft_62 ?_
      rw [hw]
      refine x_icmp_ne (t := 70) dX0_isToLeft_63 (by decide) (by omega) (fun c_63 => ?_) (fun c_63 => ?_)
      · skip
        refine x_iconst dX0_isToLeft_70 ?_
        refine gp_zret rfl dX0_isToLeft_71 (by first | exact Or.inl rfl | exact Or.inr rfl | exact bi_01 _ | omega) (by omega) (by omega) ?_
        exact ⟨by first | rw [bi_t (hl.mpr (by omega))] | rw [bi_f (fun q => by have := hl.mp q; omega)], rfl, rfl⟩
      · skip
        refine x_iconst dX0_isToLeft_66 ?_
        refine x_goto (t := 71) dX0_isToLeft_67 (by decide) ?_
        refine gp_zret rfl dX0_isToLeft_71 (by first | exact Or.inl rfl | exact Or.inr rfl | exact bi_01 _ | omega) (by omega) (by omega) ?_
        exact ⟨by first | rw [bi_t (hl.mpr (by omega))] | rw [bi_f (fun q => by have := hl.mp q; omega)], rfl, rfl⟩
    · skip
      refine x_iload_n dX0_isToLeft_40 rfl ?_
      refine x_iconst dX0_isToLeft_41 ?_
      refine x_irem dX0_isToLeft_42 (by omega) (by omega) ?_
      refine x_iconst dX0_isToLeft_43 ?_
      refine x_icmp_ne (t := 51) dX0_isToLeft_44 (by decide) (by omega) (fun c_44 => ?_) (fun c_44 => ?_)
      · skip
        refine x_iconst dX0_isToLeft_51 ?_
        refine x_goto (t := 71) dX0_isToLeft_52 (by decide) ?_
        refine gp_zret rfl dX0_isToLeft_71 (by first | exact Or.inl rfl | exact Or.inr rfl | exact bi_01 _ | omega) (by omega) (by omega) ?_
        exact ⟨by first | rw [bi_t (hl.mpr (by omega))] | rw [bi_f (fun q => by have := hl.mp q; omega)], rfl, rfl⟩
      · skip
        refine x_iconst dX0_isToLeft_47 ?_
        refine x_goto (t := 71) dX0_isToLeft_48 (by decide) ?_
        refine gp_zret rfl dX0_isToLeft_71 (by first | exact Or.inl rfl | exact Or.inr rfl | exact bi_01 _ | omega) (by omega) (by omega) ?_
        exact ⟨by first | rw [bi_t (hl.mpr (by omega))] | rw [bi_f (fun q => by have := hl.mp q; omega)], rfl, rfl⟩
  · skip
    rw [if_pos c_8] at e
    refine x_aload_n dX0_isToLeft_11 rfl ?_
    refine g_getR 12 (r := some 342) (ci := 1) (kf := 12) rfl (by decide) (by decide) rfl rfl q1320 rfl (hs.k 300 (by decide)) (hs.r 12 (by decide)) dX0_isToLeft_12 ?_
    refine x_iconst dX0_isToLeft_15 ?_
    refine g_iald (hs.k 342 (by decide)) rfl (by omega) dX0_isToLeft_16 ?_
    refine x_iconst dX0_isToLeft_17 ?_
    rw [hj]
    refine x_icmp_ne (t := 25) dX0_isToLeft_18 (by decide) (by omega) (fun c_18 => ?_) (fun c_18 => ?_)
    · skip
      refine x_iconst dX0_isToLeft_25 ?_
      refine x_goto (t := 71) dX0_isToLeft_26 (by decide) ?_
      refine gp_zret rfl dX0_isToLeft_71 (by first | exact Or.inl rfl | exact Or.inr rfl | exact bi_01 _ | omega) (by omega) (by omega) ?_
      exact ⟨by first | rw [bi_t (hl.mpr (by omega))] | rw [bi_f (fun q => by have := hl.mp q; omega)], rfl, rfl⟩
    · skip
      refine x_iconst dX0_isToLeft_21 ?_
      refine x_goto (t := 71) dX0_isToLeft_22 (by decide) ?_
      refine gp_zret rfl dX0_isToLeft_71 (by first | exact Or.inl rfl | exact Or.inr rfl | exact bi_01 _ | omega) (by omega) (by omega) ?_
      exact ⟨by first | rw [bi_t (hl.mpr (by omega))] | rw [bi_f (fun q => by have := hl.mp q; omega)], rfl, rfl⟩
end STO
