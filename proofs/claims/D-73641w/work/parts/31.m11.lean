set_option maxRecDepth 100000
/-! THE MODEL's methods, 11: words are laid -/
noncomputable def cutN (R : List (List Int)) (rise : Int) (row : List Int) : Nat → Nat → List (List Int)
  | 0, _ => []
  | k + 1, i => if i < row.length then pc_ row i (wlen R rise row i) :: cutN R rise row k (i + wlen R rise row i) else []
noncomputable def cutR (R : List (List Int)) (rise : Int) (row : List Int) : List (List Int) := cutN R rise row row.length 0
noncomputable def allW (R : List (List Int)) (rise : Int) : List (List Int) := R.flatMap (cutR R rise)
def lexL (ws : List (List Int)) : List (List Int × Int) := ws.foldl insW []
theorem lexL_snoc (ws : List (List Int)) (w : List Int) : lexL (ws ++ [w]) = insW (lexL ws) w := by simp [lexL, List.foldl_append]
theorem insW_len (L : List (List Int × Int)) (p : List Int) : (insW L p).length ≤ L.length + 1 := by
  have := (posW_spec L p).1
  unfold insW
  split
  · split
    · simp
    · simp; omega
  · simp; omega
theorem lexL_len (ws : List (List Int)) : (lexL ws).length ≤ ws.length := by
  have key : ∀ (ws : List (List Int)) (L : List (List Int × Int)), (ws.foldl insW L).length ≤ L.length + ws.length := by
    intro ws
    induction ws with
    | nil => intro L; simp
    | cons a ws ih =>
      intro L
      have h1 := ih (insW L a)
      have h2 := insW_len L a
      simp only [List.foldl_cons, List.length_cons]
      omega
  have := key ws []
  simpa [lexL] using this
/-- how many words begin, end with a sign -/
def cntH (ws : List (List Int)) (c : Int) : Int := (ws.countP (fun w => decide (w.getD 0 0 = c)) : Int)
def cntT (ws : List (List Int)) (c : Int) : Int := (ws.countP (fun w => decide (w.getD (w.length - 1) 0 = c)) : Int)
theorem cntH_snoc (ws : List (List Int)) (w : List Int) (c : Int) : cntH (ws ++ [w]) c = cntH ws c + (if w.getD 0 0 = c then 1 else 0) := by
  simp only [cntH, List.countP_append, List.countP_singleton, decide_eq_true_eq]
  split <;> simp
theorem cntT_snoc (ws : List (List Int)) (w : List Int) (c : Int) : cntT (ws ++ [w]) c = cntT ws c + (if w.getD (w.length - 1) 0 = c then 1 else 0) := by
  simp only [cntT, List.countP_append, List.countP_singleton, decide_eq_true_eq]
  split <;> simp
theorem RE_eqx {I J : Nat → Int → Int} {R : List (List Int)} {xs : List Nat} {fs : List Int} (h : RE I R) (he : eqx I J xs fs) (h1 : 373 ∉ xs) (h2 : 374 ∉ xs) (h3 : (23 : Int) ∉ fs) : RE J R := by
  unfold RE
  rw [he.2 23 h3, he.1 373 (by decide) h1, he.1 374 (by decide) h2]
  exact h
/-- the words ws stand in the arrays -/
def WdE (I J : Nat → Int → Int) (ws : List (List Int)) : Prop := eqx I J [375, 376, 377, 378, 379, 380] [25, 26] ∧ WE J (lexL ws) ∧ J 360 26 = ws.length ∧ ∀ c, 0 ≤ c → c < 20 → J 379 c = cntH ws c ∧ J 380 c = cntT ws c
theorem WE_eqx {I J : Nat → Int → Int} {L : List (List Int × Int)} {xs : List Nat} {fs : List Int} (h : WE I L) (he : eqx I J xs fs) (h1 : 376 ∉ xs) (h2 : 377 ∉ xs) (h4 : 378 ∉ xs) (h3 : (25 : Int) ∉ fs) : WE J L := by
  unfold WE enI
  rw [he.2 25 h3, he.1 376 (by decide) h1, he.1 377 (by decide) h2, he.1 378 (by decide) h4]
  exact h
theorem eqx_mPc (I : Nat → Int → Int) (w : List Int) : eqx I (mPc I w) [375] [] := ⟨fun x h1 h2 => mPc_ne I w (by simpa using h2), fun j _ => by rw [mPc_ne I w (by decide)]⟩
theorem pc_get {row : List Int} {i n k : Nat} (h : k < n) : (pc_ row i n).getD k 0 = row.getD (i + k) 0 := by
  simp only [pc_, List.getD_eq_getElem?_getD, List.getElem?_take, if_pos h, List.getElem?_drop]
theorem c_laysWords {I : Nat → Int → Int} {R : List (List Int)} (hR : RE I R) (hrise : 0 ≤ I 369 2 ∧ I 369 2 < 100) : mE yX4_laysWords cX4_laysWords 4 none 3 [vR (some 360)] I (fun I' => WdE I I' (allW R (I 369 2))) := by
  have hfl := hR.flat
  have h24 := hR.2.2.2.1
  refine mE.of (by decide) rfl (Nat.le_of_ble_eq_true rfl) (fun G nx => ?_)
  refine x_ls (ls2 := [some (vR (some 360)), none, none, none]) rfl ?_
  generalize hF : (fun I' => WdE I I' (allW R (I 369 2))) = F
  refine x_aload_n dX4_laysWords_0 rfl ?_
  refine x_iconst dX4_laysWords_1 ?_
  refine m_putI (kf := 25) 25 (by decide) rfl rfl q2140 rfl rfl (rr_nar_i _) dX4_laysWords_2 ?_
  refine x_aload_n dX4_laysWords_5 rfl ?_
  refine x_iconst dX4_laysWords_6 ?_
  refine m_putI (kf := 26) 26 (by decide) rfl rfl q2141 rfl rfl (rr_nar_i _) dX4_laysWords_7 ?_
  refine x_iconst dX4_laysWords_10 ?_
  refine x_istore_n dX4_laysWords_11 (by decide) ?_
  generalize hV : rr_u2 (rr_u2 I 360 25 0) 360 26 0 = V
  refine x_h (h2 := mh (fl (fl V 379 0 0 (fun _ => 0)) 380 0 0 (fun _ => 0))) (by rw [fl_0 _ 380 (by omega), fl_0 _ 379 (by omega)]) ?_
  refine rr_ind (W := fun k => me G yX4_laysWords cX4_laysWords 4 none 3 nx _ 12 [some (vR (some 360)), some (vI k), none, none] [] (fl (fl V 379 0 k (fun _ => 0)) 380 0 k (fun _ => 0))) (fun k => (20 - k).toNat) (fun k => 0 ≤ k ∧ k ≤ 20) ?_ 0 (by omega)
  intro k hk ih
  refine x_iload_n dX4_laysWords_12 rfl ?_
  refine x_bipush dX4_laysWords_13 (by decide) ?_
  refine x_icmp_ge (t := 38) dX4_laysWords_15 (by decide) (by omega) (fun c_15 => ?_) (fun c_15 => ?_)
  · skip
    have hk2 : k = 20 := by omega
    subst hk2
    refine x_iconst dX4_laysWords_38 ?_
    refine x_istore_n dX4_laysWords_39 (by decide) ?_
    generalize hJ0 : fl (fl V 379 0 20 (fun _ => 0)) 380 0 20 (fun _ => 0) = J0
    have h0 : WdE I J0 [] := by
      refine ⟨⟨fun x h1 h2 => ?_, fun j hj => ?_⟩, ⟨?_, fun j q hq => by simp [lexL] at hq⟩, ?_, fun c h1 h2 => ?_⟩
      · funext j
        simp at h2
        rw [← hJ0, fl_o _ _ _ _ _ (by omega), fl_o _ _ _ _ _ (by omega), ← hV, rr_u2_ne _ _ (by omega), rr_u2_ne _ _ (by omega)]
      · simp at hj
        rw [← hJ0, fl_o _ _ _ _ _ (by omega), fl_o _ _ _ _ _ (by omega), ← hV, rr_u2_ne _ _ (by omega), rr_u2_ne _ _ (by omega)]
      · rw [← hJ0, fl_o _ _ _ _ _ (by omega), fl_o _ _ _ _ _ (by omega), ← hV]
        simp [rr_u2, lexL]
      · rw [← hJ0, fl_o _ _ _ _ _ (by omega), fl_o _ _ _ _ _ (by omega), ← hV]
        simp [rr_u2]
      · rw [← hJ0]
        simp [fl, cntH, cntT, h1, h2]
    clear hJ0 hV ih hk
    refine x_loc (ls2 := [some (vR (some 360)), some (vI (((0 : Nat), ([] : List (List Int)), J0).1 : Int)), none, none]) (by repeat first | exact trivial | refine ⟨Or.inr rfl, ?_⟩ | refine ⟨Or.inl rfl, ?_⟩) ?_
    refine rr_ind (W := fun q : Nat × List (List Int) × (Nat → Int → Int) => me G yX4_laysWords cX4_laysWords 4 none 3 nx _ 40 [some (vR (some 360)), some (vI (q.1 : Int)), none, none] [] q.2.2) (fun q => R.length - q.1) (fun q => q.1 ≤ R.length ∧ WdE I q.2.2 q.2.1 ∧ q.2.1 ++ (R.drop q.1).flatMap (cutR R (I 369 2)) = allW R (I 369 2) ∧ (q.2.1.length : Int) ≤ bg R q.1) ?_ (0, [], J0) ⟨by simp, h0, by simp [allW], by simp [bg]⟩
    rintro ⟨r, done, J⟩ ⟨hr, hJ, hdn, hlen⟩ ih
    simp only at hr hJ hdn hlen ih
    dsimp only
    have hRJ := RE_eqx hR hJ.1 (by decide) (by decide) (by decide)
    have hbr := hRJ.2.1 r hr
    refine x_iload_n dX4_laysWords_40 rfl ?_
    refine x_aload_n dX4_laysWords_41 rfl ?_
    refine m_getI (kf := 23) 23 (by decide) rfl rfl q2138 rfl dX4_laysWords_42 ?_
    rw [hRJ.1]
    refine x_icmp_ge (t := 143) dX4_laysWords_45 (by decide) (by omega) (fun c_45 => ?_) (fun c_45 => ?_)
    · skip
      have hr2 : r = R.length := by omega
      refine x_vret rfl dX4_laysWords_143 (Nat.le_refl _) (Nat.le_refl _) ?_
      refine ⟨rfl, rfl, _, rfl, ?_⟩
      rw [hr2, List.drop_length, List.flatMap_nil, List.append_nil] at hdn
      rw [← hF, ← hdn]
      exact hJ
    · skip
      refine x_aload_n dX4_laysWords_48 rfl ?_
      refine m_getA (kf := 21) 21 (a := 373) (by decide) rfl rfl q2136 rfl rfl dX4_laysWords_49 ?_
      refine x_iload_n dX4_laysWords_52 rfl ?_
      refine m_iald (n := 25) rfl rfl (by decide) (by omega) dX4_laysWords_53 ?_
      rw [hbr]
      refine x_istore_n dX4_laysWords_54 (by decide) ?_
      have hb := bg_le (R := R) (r := r) (by omega)
      have hrow := hR.row (r := r) (by omega)
      have hbn := hR.2.1 (r + 1) (by omega)
      have hbr1 := bg_row (show r < R.length by omega)
      rw [show ((r + 1 : Nat) : Int) = (r : Int) + 1 by omega, hbr1] at hbn
      have hdrop : (R.drop r).flatMap (cutR R (I 369 2)) = cutR R (I 369 2) (R.getD r []) ++ (R.drop (r + 1)).flatMap (cutR R (I 369 2)) := by
        rw [List.drop_eq_getElem_cons (show r < R.length by omega), List.flatMap_cons]
        have : R.getD r [] = R[r] := by simp [show r < R.length by omega]
        rw [this]
      rw [hdrop] at hdn
      refine x_loc (ls2 := [some (vR (some 360)), some (vI (r : Int)), some (vI (bg R r + (((0 : Nat), (R.getD r []).length, done, J).1 : Int))), none]) (by rw [show ((((0 : Nat), (R.getD r []).length, done, J).1 : Nat) : Int) = 0 from rfl, Int.add_zero]; exact (by repeat first | exact trivial | refine ⟨Or.inr rfl, ?_⟩ | refine ⟨Or.inl rfl, ?_⟩)) ?_
      refine rr_ind (W := fun q : Nat × Nat × List (List Int) × (Nat → Int → Int) => me G yX4_laysWords cX4_laysWords 4 none 3 nx _ 55 [some (vR (some 360)), some (vI (r : Int)), some (vI (bg R r + (q.1 : Int))), none] [] q.2.2.2) (fun q => (R.getD r []).length - q.1) (fun q => q.1 ≤ (R.getD r []).length ∧ (R.getD r []).length ≤ q.1 + q.2.1 ∧ WdE I q.2.2.2 q.2.2.1 ∧ q.2.2.1 ++ (cutN R (I 369 2) (R.getD r []) q.2.1 q.1 ++ (R.drop (r + 1)).flatMap (cutR R (I 369 2))) = allW R (I 369 2) ∧ (q.2.2.1.length : Int) ≤ bg R r + q.1) ?_ (0, (R.getD r []).length, done, J) ⟨by simp, by simp, hJ, hdn, by simp only; omega⟩
      clear hJ hRJ hbr hdn hlen
      rintro ⟨i, f, done, J⟩ ⟨hi, hf, hJ, hdn, hlen⟩ ih2
      simp only at hi hf hJ hdn hlen ih2
      dsimp only
      have hRJ := RE_eqx hR hJ.1 (by decide) (by decide) (by decide)
      have hbJ : J 373 ((r : Int) + 1) = bg R r + (R.getD r []).length := by rw [hJ.1.1 373 (by decide) (by decide)]; exact hbn
      have h2J : J 369 = I 369 := hJ.1.1 369 (by decide) (by decide)
      have hll := lexL_len done
      refine x_iload_n dX4_laysWords_55 rfl ?_
      refine x_aload_n dX4_laysWords_56 rfl ?_
      refine m_getA (kf := 21) 21 (a := 373) (by decide) rfl rfl q2136 rfl rfl dX4_laysWords_57 ?_
      refine x_iload_n dX4_laysWords_60 rfl ?_
      refine x_iconst dX4_laysWords_61 ?_
      refine x_iadd dX4_laysWords_62 ?_
      refine m_iald (n := 25) rfl rfl (by decide) (by omega) dX4_laysWords_63 ?_
      rw [hbJ]
      refine x_icmp_ge (t := 137) dX4_laysWords_64 (by decide) (by omega) (fun c_64 => ?_) (fun c_64 => ?_)
      · skip
        have hi2 : i = (R.getD r []).length := by omega
        have hcut : cutN R (I 369 2) (R.getD r []) f i = [] := by
          cases f with
          | zero => rfl
          | succ f => simp only [cutN]; rw [if_neg (by omega)]
        rw [hcut, List.nil_append] at hdn
        have hgo := ih (r + 1, done, J) ⟨by simp only; omega, hJ, hdn, by simp only; rw [show ((r + 1 : Nat) : Int) = (r : Int) + 1 by omega, hbr1]; omega⟩ (by simp only; omega)
        refine x_iinc dX4_laysWords_137 rfl (by decide) ?_
        refine x_goto (t := 40) dX4_laysWords_140 (by decide) ?_
        exact x_loc (by rw [show (((r + 1, done, J) : Nat × List (List Int) × (Nat → Int → Int)).1 : Int) = (r : Int) + 1 by simp only; omega]; exact (by repeat first | exact trivial | refine ⟨Or.inr rfl, ?_⟩ | refine ⟨Or.inl rfl, ?_⟩)) hgo
      · skip
        obtain ⟨hN, -, -⟩ := wlen_spec R (I 369 2) (R.getD r []) (show i < (R.getD r []).length by omega)
        refine x_aload_n dX4_laysWords_67 rfl ?_
        refine x_iload_n dX4_laysWords_68 rfl ?_
        refine x_aload_n dX4_laysWords_69 rfl ?_
        refine m_getA (kf := 21) 21 (a := 373) (by decide) rfl rfl q2136 rfl rfl dX4_laysWords_70 ?_
        refine x_iload_n dX4_laysWords_73 rfl ?_
        refine x_iconst dX4_laysWords_74 ?_
        refine x_iadd dX4_laysWords_75 ?_
        refine m_iald (n := 25) rfl rfl (by decide) (by omega) dX4_laysWords_76 ?_
        rw [hbJ]
        refine m_cv2 (c_length hRJ (by omega) (by omega) (by rw [h2J]; exact hrise)) fX4_length q2451 (by decide) (Nat.le_of_ble_eq_true rfl) dX4_laysWords_77 ?_
        rw [h2J]
        generalize hn : wlen R (I 369 2) (R.getD r []) i = n at *
        have hpl := pc_len (row := R.getD r []) (i := i) (n := n) (by omega)
        refine x_istore_n dX4_laysWords_80 (by decide) ?_
        refine x_aload_n dX4_laysWords_81 rfl ?_
        refine x_iload_n dX4_laysWords_82 rfl ?_
        refine x_top ((pc_ (R.getD r []) i n).length : Int) (by rw [hpl]) ?_
        refine m_ew1 (c_comesWord (I := mPc J (pc_ (R.getD r []) i n)) (WE_eqx hJ.2.1 (eqx_mPc _ _) (by decide) (by decide) (by decide) (by decide)) (by omega) (PE_mPc J (by omega) (fun c hc => hrow.2 c (pc_mem hc))) (by omega)) fX4_comesWord q2463 (by decide) (Nat.le_of_ble_eq_true rfl) dX4_laysWords_83 (fun J2 hJ2 => ?_)
        have e12 : eqx J J2 [375, 376, 377, 378] [25] := ((eqx_mPc J _).mono (by decide) (by decide)).tr (hJ2.1.mono (by decide) (by decide))
        have hR2 := RE_eqx hRJ e12 (by decide) (by decide) (by decide)
        have hat := fun k => hR2.at (r := r) (i := k) (by omega)
        have hmem : ∀ k, k < (R.getD r []).length → 0 ≤ (R.getD r []).getD k 0 ∧ (R.getD r []).getD k 0 < 20 := fun k hk => by
          rw [List.getD_eq_getElem?_getD (l := R.getD r []), List.getElem?_eq_getElem hk]
          exact hrow.2 _ (List.getElem_mem _)
        refine x_aload_n dX4_laysWords_86 rfl ?_
        refine m_getA (kf := 30) 30 (a := 379) (by decide) rfl rfl q2145 rfl rfl dX4_laysWords_87 ?_
        refine x_aload_n dX4_laysWords_90 rfl ?_
        refine m_getA (kf := 22) 22 (a := 374) (by decide) rfl rfl q2137 rfl rfl dX4_laysWords_91 ?_
        refine x_iload_n dX4_laysWords_94 rfl ?_
        refine m_iald (n := 240) rfl rfl (by decide) (by omega) dX4_laysWords_95 ?_
        rw [hat i (by omega)]
        have hm1 := hmem i (by omega)
        refine x_dup2 dX4_laysWords_96 rfl rfl ?_
        refine m_iald (n := 20) rfl rfl (by decide) (by omega) dX4_laysWords_97 ?_
        refine x_iconst dX4_laysWords_98 ?_
        refine x_iadd dX4_laysWords_99 ?_
        refine m_iast (n := 20) rfl rfl (by decide) (by omega) dX4_laysWords_100 ?_
        refine x_aload_n dX4_laysWords_101 rfl ?_
        refine m_getA (kf := 31) 31 (a := 380) (by decide) rfl rfl q2146 rfl rfl dX4_laysWords_102 ?_
        refine x_aload_n dX4_laysWords_105 rfl ?_
        refine m_getA (kf := 22) 22 (a := 374) (by decide) rfl rfl q2137 rfl rfl dX4_laysWords_106 ?_
        refine x_iload_n dX4_laysWords_109 rfl ?_
        refine x_iload_n dX4_laysWords_110 rfl ?_
        refine x_iadd dX4_laysWords_111 ?_
        refine x_iconst dX4_laysWords_112 ?_
        refine x_isub dX4_laysWords_113 ?_
        refine m_iald (n := 240) rfl rfl (by decide) (by omega) dX4_laysWords_114 ?_
        rw [show bg R r + (i : Int) + n - 1 = bg R r + ((i + n - 1 : Nat) : Int) by omega, rr_u2_ne _ _ (by omega), hat (i + n - 1) (by omega)]
        have hm2 := hmem (i + n - 1) (by omega)
        refine x_dup2 dX4_laysWords_115 rfl rfl ?_
        refine m_iald (n := 20) rfl rfl (by decide) (by omega) dX4_laysWords_116 ?_
        refine x_iconst dX4_laysWords_117 ?_
        refine x_iadd dX4_laysWords_118 ?_
        refine m_iast (n := 20) rfl rfl (by decide) (by omega) dX4_laysWords_119 ?_
        refine x_aload_n dX4_laysWords_120 rfl ?_
        refine x_dup dX4_laysWords_121 rfl ?_
        refine m_getI (kf := 26) 26 (by decide) rfl rfl q2141 rfl dX4_laysWords_122 ?_
        refine x_iconst dX4_laysWords_125 ?_
        refine x_iadd dX4_laysWords_126 ?_
        refine m_putI (kf := 26) 26 (by decide) rfl rfl q2141 rfl rfl (rr_nar_i _) dX4_laysWords_127 ?_
        refine x_iload_n dX4_laysWords_130 rfl ?_
        refine x_iload_n dX4_laysWords_131 rfl ?_
        refine x_iadd dX4_laysWords_132 ?_
        refine x_istore_n dX4_laysWords_133 (by decide) ?_
        refine x_goto (t := 55) dX4_laysWords_134 (by decide) ?_
        generalize hK : rr_u2 (rr_u2 (rr_u2 J2 379 _ _) 380 _ _) 360 26 _ = K
        obtain ⟨f, rfl⟩ : ∃ g, f = g + 1 := ⟨f - 1, by omega⟩
        have hcut : cutN R (I 369 2) (R.getD r []) (f + 1) i = pc_ (R.getD r []) i n :: cutN R (I 369 2) (R.getD r []) f (i + n) := by
          simp only [cutN]
          rw [if_pos (by omega), hn]
        rw [hcut] at hdn
        have e379 : J2 379 = J 379 := e12.1 379 (by decide) (by decide)
        have e380 : J2 380 = J 380 := e12.1 380 (by decide) (by decide)
        have e26 : J2 360 26 = done.length := by rw [e12.2 26 (by decide)]; exact hJ.2.2.1
        have hg0 : (pc_ (R.getD r []) i n).getD 0 0 = (R.getD r []).getD i 0 := by rw [pc_get (by omega)]; rfl
        have hg1 : (pc_ (R.getD r []) i n).getD ((pc_ (R.getD r []) i n).length - 1) 0 = (R.getD r []).getD (i + n - 1) 0 := by rw [hpl, pc_get (by omega)]; congr 1; omega
        have eK : eqx J2 K [379, 380] [26] := ⟨fun x h1 h2 => by
          funext j
          simp at h2
          rw [← hK, rr_u2_ne _ _ (by omega), rr_u2_ne _ _ (by omega), rr_u2_ne _ _ (by omega)], fun j hj => by
          simp at hj
          rw [← hK, rr_u2_ne _ _ (by omega), rr_u2_ne _ _ (by omega), rr_u2_ne _ _ (by omega)]⟩
        have hWd : WdE I K (done ++ [pc_ (R.getD r []) i n]) := by
          refine ⟨hJ.1.tr ((e12.mono (by decide) (by decide)).tr (eK.mono (by decide) (by decide))), ?_, ?_, fun c h1 h2 => ?_⟩
          · rw [lexL_snoc]
            exact WE_eqx hJ2.2 eK (by decide) (by decide) (by decide) (by decide)
          · rw [← hK, rr_u2_same, rr_u2_ne _ _ (by omega), rr_u2_ne _ _ (by omega), e26]
            simp
          · obtain ⟨g1, g2⟩ := hJ.2.2.2 c h1 h2
            rw [cntH_snoc, cntT_snoc, hg0, hg1, ← g1, ← g2, ← e379, ← e380, ← hK]
            constructor
            · rw [rr_u2_ne _ _ (by omega), rr_u2_ne _ _ (by omega)]
              by_cases e : c = (R.getD r []).getD i 0
              · rw [e, rr_u2_same, if_pos rfl]
              · rw [rr_u2_ne _ _ (fun q => e q.2), if_neg (fun q => e q.symm)]; omega
            · rw [rr_u2_ne _ _ (by omega)]
              by_cases e : c = (R.getD r []).getD (i + n - 1) 0
              · rw [e, rr_u2_same, rr_u2_ne _ _ (by omega), if_pos rfl]
              · rw [rr_u2_ne _ _ (fun q => e q.2), rr_u2_ne _ _ (by omega), if_neg (fun q => e q.symm)]; omega
        have hgo := ih2 (i + n, f, done ++ [pc_ (R.getD r []) i n], K) ⟨by simp only; omega, by simp only; omega, hWd, by simp only; rw [← hdn]; simp, by simp only [List.length_append, List.length_singleton]; omega⟩ (by simp only; omega)
        exact x_loc (by rw [show (((i + n, f, done ++ [pc_ (R.getD r []) i n], K) : Nat × Nat × List (List Int) × (Nat → Int → Int)).1 : Int) = (i : Int) + n by simp only; omega, ← Int.add_assoc]; exact (by repeat first | exact trivial | refine ⟨Or.inr rfl, ?_⟩ | refine ⟨Or.inl rfl, ?_⟩)) hgo
  · skip
    refine x_aload_n dX4_laysWords_18 rfl ?_
    refine m_getA (kf := 30) 30 (a := 379) (by decide) rfl rfl q2145 rfl rfl dX4_laysWords_19 ?_
    refine x_iload_n dX4_laysWords_22 rfl ?_
    refine x_iconst dX4_laysWords_23 ?_
    refine m_iast (n := 20) rfl rfl (by decide) (by omega) dX4_laysWords_24 ?_
    refine x_aload_n dX4_laysWords_25 rfl ?_
    refine m_getA (kf := 31) 31 (a := 380) (by decide) rfl rfl q2146 rfl rfl dX4_laysWords_26 ?_
    refine x_iload_n dX4_laysWords_29 rfl ?_
    refine x_iconst dX4_laysWords_30 ?_
    refine m_iast (n := 20) rfl rfl (by decide) (by omega) dX4_laysWords_31 ?_
    rw [show rr_u2 (rr_u2 (fl (fl V 379 0 k (fun _ => 0)) 380 0 k (fun _ => 0)) 379 k 0) 380 k 0 = fl (fl V 379 0 (k + 1) (fun _ => 0)) 380 0 (k + 1) (fun _ => 0) from by apply rr_u2_eq; intro x j; simp only [rr_u2, fl]; grind (splits := 20)]
    refine x_iinc dX4_laysWords_32 rfl (by decide) ?_
    refine x_goto (t := 12) dX4_laysWords_35 (by decide) ?_
    exact ih (k + 1) (by omega) (by omega)
