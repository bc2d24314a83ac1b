/-! SYSTEM 10: links, words' signs, onlyAt, cluesOf -/
set_option maxRecDepth 100000
section WD
variable {G : rr_G} {nx : Nat} {K N : Nat → Nat} {I I1 I2 J : Nat → Int → Int} {R : Nat → Int → Option Nat} {T a : Nat} {p q : Int}
/-- bits of a, with those that P adds -/
def LnP (I : Nat → Int → Int) (a : Nat) (P : Int → Int → Prop) (I2 : Nat → Int → Int) : Prop := (∀ x, x ≠ a → I2 x = I x) ∧ ∀ x y, 0 ≤ x → x < 20 → 0 ≤ y → y < 32 → (tb (I2 a x) y ↔ (tb (I a x) y ∨ P x y))
theorem jc_links (hK : K a = 64) (hN : N a = 20) (h3 : 300 ≤ a) (hp : 0 ≤ p ∧ p < 20) (hq : 0 ≤ q ∧ q < 20) : gW G yX0_links cX0_links 3 (none) 0 0 0 [vR (some a), vI p, vI q] (K, N, I, R) nx (gI K N R nx (LnP I a (twoOf p q))) := by
  refine gW.of (by decide) rfl (Nat.le_of_ble_eq_true rfl) ?_
  refine x_ls (ls2 := [some (vR (some a)), some (vI p), some (vI q)]) rfl ?_
  refine x_iload_n dX0_links_0 rfl ?_
  refine x_iload_n dX0_links_1 rfl ?_
  refine x_icmp_ne (t := 6) dX0_links_2 (by decide) (by omega) (fun c_2 => ?_) (fun c_2 => ?_)
  · skip
    refine x_aload_n dX0_links_6 rfl ?_
    refine x_iload_n dX0_links_7 rfl ?_
    refine x_dup2 dX0_links_8 rfl rfl ?_
    refine g_iald (by first | assumption | grind) rfl (by omega) dX0_links_9 ?_
    refine x_iconst dX0_links_10 ?_
    refine x_iload_n dX0_links_11 rfl ?_
    refine x_ishl dX0_links_12 ?_
    refine x_ior dX0_links_13 ?_
    refine g_iast (by first | assumption | grind) (by first | assumption | omega) rfl (by omega) dX0_links_14 ?_
    refine x_aload_n dX0_links_15 rfl ?_
    refine x_iload_n dX0_links_16 rfl ?_
    refine x_dup2 dX0_links_17 rfl rfl ?_
    refine g_iald (by first | assumption | grind) rfl (by omega) dX0_links_18 ?_
    refine x_iconst dX0_links_19 ?_
    refine x_iload_n dX0_links_20 rfl ?_
    refine x_ishl dX0_links_21 ?_
    refine x_ior dX0_links_22 ?_
    refine g_iast (by first | assumption | grind) (by first | assumption | omega) rfl (by omega) dX0_links_23 ?_
    refine gw_vret rfl dX0_links_24 (by omega) (by omega) ?_
    refine ⟨rfl, _, rfl, fun x hx => by rw [rr_u2_of hx, rr_u2_of hx], fun x y x0 x1 y0 y1 => ?_⟩
    rw [rr_u2_upA, rr_u2_upA]
    unfold twoOf
    by_cases e1 : x = q
    · subst e1
      rw [upA_s, upA_n _ _ (show x ≠ p by omega), tb_or, tb_shl1 (by omega) ⟨y0, y1⟩]
      constructor
      · rintro (w | w)
        · exact Or.inl w
        · exact Or.inr ⟨by omega, Or.inr ⟨rfl, w⟩⟩
      · rintro (w | w)
        · exact Or.inl w
        · exact Or.inr (by omega)
    · rw [upA_n _ _ e1]
      by_cases e2 : x = p
      · subst e2
        rw [upA_s, tb_or, tb_shl1 (by omega) ⟨y0, y1⟩]
        constructor
        · rintro (w | w)
          · exact Or.inl w
          · exact Or.inr ⟨by omega, Or.inl ⟨rfl, w⟩⟩
        · rintro (w | w)
          · exact Or.inl w
          · exact Or.inr (by omega)
      · rw [upA_n _ _ e2]
        exact ⟨Or.inl, fun w => w.elim id (fun u => by omega)⟩
  · skip
    refine gw_vret rfl dX0_links_5 (by omega) (by omega) ?_
    exact ⟨rfl, I, rfl, fun _ _ => rfl, fun x y x0 x1 y0 y1 => ⟨Or.inl, fun w => w.elim id (fun u => by unfold twoOf at u; omega)⟩⟩
/-- a word of signs w -/
def Wd (K N : Nat → Nat) (I : Nat → Int → Int) (R : Nat → Int → Option Nat) (x : Nat) (w : List Int) : Prop := K x = 6 ∧ WOK w ∧ ∃ s b, R x 0 = some s ∧ Str K N I R s b (w.map (97 + ·))
theorem jc_sign {x : Nat} {w : List Int} (h : Wd K N I R x w) {i : Int} (hi : 0 ≤ i ∧ i < (w.length : Int)) : gP G yX3_sign cX3_sign 2 ((some FieldType.int)) 4 0 0 [vR (some x), vI i] (K, N, I, R) nx (gEq (vI (w.getD i.toNat 0)) (K, N, I, R) nx) := by
  obtain ⟨hKx, hw, s, b, hs, hS⟩ := h
  have hKs := hS.1.1
  have e : (w.map (97 + ·)).getD i.toNat 0 = 97 + w.getD i.toNat 0 := by
    rw [List.getD_eq_getElem?_getD, List.getD_eq_getElem?_getD, List.getElem?_map, List.getElem?_eq_getElem (by omega)]
    rfl
  have hr := hw.at (k := i.toNat) (by omega)
  refine gP.of (by decide) rfl (Nat.le_of_ble_eq_true rfl) ?_
  refine x_ls (ls2 := [some (vR (some x)), some (vI i)]) rfl ?_
  refine x_aload_n dX3_sign_0 rfl ?_
  refine g_getR 0 (r := some s) (ci := 6) (kf := 0) rfl (by decide) (by decide) rfl rfl q1030 rfl (by first | assumption | grind) (hs) dX3_sign_1 ?_
  refine x_iload_n dX3_sign_4 rfl ?_
  refine g_cv1 (ci := 14) (jc_charAt hS (by rw [List.length_map]; omega)) fJ7_charAt q1268 rfl (by decide) (by first | assumption | grind) (by decide) (Nat.le_of_ble_eq_true rfl) (by omega) (by omega) dX3_sign_5 (fun v h2 n2 hp => ?_)
  obtain ⟨rfl, rfl, rfl⟩ := hp
  rw [e]
  refine x_bipush dX3_sign_8 (by decide) ?_
  refine x_isub dX3_sign_10 ?_
  refine gp_iret rfl dX3_sign_11 (by omega) (by omega) ?_
  exact ⟨congrArg vI (by omega), rfl, rfl⟩
end WD
