/-! SYSTEM 2: what stays in the system's heap; has, isForm, isSign, root, joins, parts -/
set_option maxRecDepth 100000
def sK (x : Nat) : Nat := if x = 300 then 1 else if x = 301 then 65 else if x = 309 ∨ x = 310 then 74 else if 311 ≤ x ∧ x ≤ 330 then 64 else if x = 331 then 71 else if x = 335 then 75 else if 336 ≤ x ∧ x ≤ 341 then 73 else if x = 350 then 72 else if (332 ≤ x ∧ x ≤ 334) ∨ x = 342 ∨ (346 ≤ x ∧ x ≤ 354) then 64 else 0
def sN (x : Nat) : Nat := if x = 301 then 300 else if x = 309 ∨ x = 353 ∨ x = 354 ∨ (336 ≤ x ∧ x ≤ 341) then 4 else if x = 335 then 6 else if x = 342 then 5 else 20
def sR (k : Nat) : Option Nat := [some 301, none, none, some 309, none, some 310, some 331, none, some 332, some 333, some 334, some 335, some 342, none, none, none, none, some 346, some 347, some 348, some 349, none, some 350, none, some 351, some 352, some 353, some 354].getD k none
/-- the parts of the system that are made once -/
def Ss (K N : Nat → Nat) (R : Nat → Int → Option Nat) : Prop := (∀ x, sK x ≠ 0 → K x = sK x ∧ (x ≠ 300 → N x = sN x)) ∧ (∀ k : Nat, ∀ x, sR k = some x → R 300 (k : Int) = some x) ∧ (∀ i : Int, 0 ≤ i → i < 20 → R 310 i = some (311 + i.toNat)) ∧ ∀ i : Int, 0 ≤ i → i < 6 → R 335 i = some (336 + i.toNat)
def tK (i : Nat) : Nat := [3, 64, 68, 64, 64, 69, 64].getD i 0
def tN (i : Nat) : Nat := [0, 20, 6, 20, 20, 12, 20].getD i 0
/-- what is told, at T -/
def Td (K N : Nat → Nat) (R : Nat → Int → Option Nat) (T : Nat) : Prop := (R 300 2 = some T ∧ 300 ≤ T) ∧ (∀ i, i < 7 → K (T + i) = tK i ∧ (i ≠ 0 → N (T + i) = tN i)) ∧ (∀ i : Nat, 1 ≤ i → i ≤ 6 → R T ((i + 5 : Nat) : Int) = some (T + i)) ∧ (T = 302 ∨ 360 < T)
section SYS
variable {G : rr_G} {nx : Nat} {K N : Nat → Nat} {I : Nat → Int → Int} {R : Nat → Int → Option Nat} {T : Nat}
theorem Ss.k (h : Ss K N R) (x : Nat) {k : Nat} (e : sK x = k ∧ k ≠ 0) : K x = k := by
  rw [(h.1 x (by omega)).1]; exact e.1
theorem Ss.n (h : Ss K N R) (x : Nat) {k : Nat} (e : sN x = k ∧ sK x ≠ 0 ∧ x ≠ 300) : N x = k := by
  rw [(h.1 x e.2.1).2 e.2.2]; exact e.1
theorem Ss.r (h : Ss K N R) (k : Nat) {x : Nat} {z : Int} (e : sR k = some x ∧ (k : Int) = z) : R 300 z = some x := by
  rw [← e.2]; exact h.2.1 k x e.1
theorem Td.t (h : Td K N R T) : R 300 2 = some T := h.1.1
theorem Td.l (h : Td K N R T) : 300 ≤ T := h.1.2
theorem Td.k (h : Td K N R T) : K T = 3 := (h.2.1 0 (by decide)).1
theorem Td.a (h : Td K N R T) (i : Nat) {k : Nat} (e : tK i = k ∧ i < 7) : K (T + i) = k := by
  rw [(h.2.1 i e.2).1]; exact e.1
theorem Td.n (h : Td K N R T) (i : Nat) {k : Nat} (e : tN i = k ∧ i < 7 ∧ i ≠ 0) : N (T + i) = k := by
  rw [(h.2.1 i e.2.1).2 e.2.2]; exact e.1
theorem Td.r (h : Td K N R T) (f : Nat) {i : Nat} {z : Int} (e : f = i + 5 ∧ 1 ≤ i ∧ i ≤ 6 ∧ (f : Int) = z) : R T z = some (T + i) := by
  obtain ⟨rfl, h1, h2, rfl⟩ := e
  exact h.2.2.1 i h1 h2
theorem rr_and_rg (a b : Int) : -2147483648 ≤ rr_and a b ∧ rr_and a b < 2147483648 := by
  have h1 := Int32.le_toInt (Int32.ofInt a &&& Int32.ofInt b)
  have h2 := Int32.toInt_lt (Int32.ofInt a &&& Int32.ofInt b)
  unfold rr_and
  omega
theorem jc_has {h : rr_H} {z k : Int} (hk : 0 ≤ k ∧ k < 32) : gP G yX0_has cX0_has 2 ((some FieldType.boolean)) 0 0 0 [vI z, vI k] h nx (gEq (vI (bi (tb z k))) h nx) := by
  refine gP.of (by decide) rfl (Nat.le_of_ble_eq_true rfl) ?_
  refine x_ls (ls2 := [some (vI z), some (vI k)]) rfl ?_
  have hb := tb_has (z := z) hk
  have hrg := rr_and_rg (rr_shr z k) 1
  refine x_iload_n dX0_has_0 rfl ?_
  refine x_iload_n dX0_has_1 rfl ?_
  refine x_ishr dX0_has_2 ?_
  refine x_iconst dX0_has_3 ?_
  refine x_iand dX0_has_4 ?_
  refine x_iconst dX0_has_5 ?_
  refine x_icmp_ne (t := 13) dX0_has_6 (by decide) (by omega) (fun c_6 => ?_) (fun c_6 => ?_)
  · skip
    refine x_iconst dX0_has_13 ?_
    refine gp_zret rfl dX0_has_14 (by first | exact Or.inl rfl | exact Or.inr rfl | exact bi_01 _ | omega) (by omega) (by omega) ?_
    exact ⟨by first | exact rT2 (hb.mp (by omega)) | exact rF2 (fun q => by have := hb.mpr q; omega), rfl, rfl⟩
  · skip
    refine x_iconst dX0_has_9 ?_
    refine x_goto (t := 14) dX0_has_10 (by decide) ?_
    refine gp_zret rfl dX0_has_14 (by first | exact Or.inl rfl | exact Or.inr rfl | exact bi_01 _ | omega) (by omega) (by omega) ?_
    exact ⟨by first | exact rT2 (hb.mp (by omega)) | exact rF2 (fun q => by have := hb.mpr q; omega), rfl, rfl⟩
theorem jc_isForm {f : Int} (hs : Ss K N R) (ht : Td K N R T) (hf : 0 ≤ I T 0 ∧ I T 0 ≤ 20) (hr : -2147483648 ≤ f ∧ f < 2147483648) : gP G yX0_isForm cX0_isForm 2 ((some FieldType.boolean)) 1 0 0 [vR (some 300), vI f] (K, N, I, R) nx (gEq (vI (bi (0 ≤ f ∧ f < I T 0))) (K, N, I, R) nx) := by
  refine gP.of (by decide) rfl (Nat.le_of_ble_eq_true rfl) ?_
  refine x_ls (ls2 := [some (vR (some 300)), some (vI f)]) rfl ?_
  refine x_iload_n dX0_isForm_0 rfl ?_
  refine x_i2l dX0_isForm_1 (by omega) ?_
  refine x_lconst (z := 0) dX0_isForm_2 (by decide) ?_
  refine x_aload_n dX0_isForm_3 rfl ?_
  refine g_getR 2 (r := some T) (ci := 1) (kf := 2) rfl (by decide) (by decide) rfl rfl q1307 rfl (hs.k 300 (by decide)) (ht.t) dX0_isForm_4 ?_
  refine g_getIN 0 (ci := 3) (kf := 0) rfl (by decide) (by decide) rfl rfl q210 rfl (ht.k) dX0_isForm_7 ?_
  refine x_iconst dX0_isForm_10 ?_
  refine x_isub dX0_isForm_11 ?_
  refine x_i2l dX0_isForm_12 (by omega) ?_
  refine g_cs3 (xc_in (by omega) (by omega) (by omega) _ _ _) fX0_in q1288 (by decide) (Nat.le_of_ble_eq_true rfl) (by omega) (by omega) dX0_isForm_13 (fun v h2 n2 hp => ?_)
  obtain ⟨rfl, rfl, rfl⟩ := hp
  refine gp_zret rfl dX0_isForm_16 (by first | exact Or.inl rfl | exact Or.inr rfl | exact bi_01 _ | omega) (by omega) (by omega) ?_
  exact ⟨congrArg vI (bi_iff (by omega)), rfl, rfl⟩
theorem jc_root {a : Nat} (hK : K a = 64) (hN : N a = 20) (hd : Dn (I a)) : ∀ (m : Nat) (k : Int), 0 ≤ k → k < 20 → k ≤ m → gP G yX0_root cX0_root 2 ((some FieldType.int)) m 0 0 [vR (some a), vI k] (K, N, I, R) nx (gEq (vI (rt (I a) k)) (K, N, I, R) nx) := by
  intro m
  induction m with
  | zero =>
    intro k h0 h1 h2
    have hk : k = 0 := by omega
    subst hk
    have e0 : I a 0 = 0 := by have := hd 0 (by omega) (by omega); omega
    rw [rt_fix hd (by omega) (by omega) e0]
    refine gP.of (by decide) rfl (Nat.le_of_ble_eq_true rfl) ?_
    refine x_ls (ls2 := [some (vR (some a)), some (vI 0)]) rfl ?_
    refine x_aload_n dX0_root_0 rfl ?_
    refine x_iload_n dX0_root_1 rfl ?_
    refine g_iald (by first | assumption | grind) rfl (by omega) dX0_root_2 ?_
    refine x_iload_n dX0_root_3 rfl ?_
    refine x_icmp_ne (t := 11) dX0_root_4 (by decide) (by omega) (fun c_4 => absurd (by omega) c_4) (fun c_4 => ?_)
    refine x_iload_n dX0_root_7 rfl ?_
    refine x_goto (t := 18) dX0_root_8 (by decide) ?_
    refine gp_iret rfl dX0_root_18 (by omega) (by omega) ?_
    exact ⟨rfl, rfl, rfl⟩
  | succ m ih =>
    intro k h0 h1 h2
    have hdk := hd k h0 h1
    rw [rt_eq hd h0 h1]
    refine gP.of (by decide) rfl (Nat.le_of_ble_eq_true rfl) ?_
    refine x_ls (ls2 := [some (vR (some a)), some (vI k)]) rfl ?_
    refine x_aload_n dX0_root_0 rfl ?_
    refine x_iload_n dX0_root_1 rfl ?_
    refine g_iald (by first | assumption | grind) rfl (by omega) dX0_root_2 ?_
    refine x_iload_n dX0_root_3 rfl ?_
    refine x_icmp_ne (t := 11) dX0_root_4 (by decide) (by omega) (fun c_4 => ?_) (fun c_4 => ?_)
    · skip
      refine x_aload_n dX0_root_11 rfl ?_
      refine x_aload_n dX0_root_12 rfl ?_
      refine x_iload_n dX0_root_13 rfl ?_
      refine g_iald (by first | assumption | grind) rfl (by omega) dX0_root_14 ?_
      refine g_cs2 (ih (I a k) (by omega) (by omega) (by omega)) fX0_root q324 ⟨by omega, by decide⟩ (Nat.le_of_ble_eq_true rfl) (by omega) (by omega) dX0_root_15 (fun v h2 n2 hp => ?_)
      obtain ⟨rfl, rfl, rfl⟩ := hp
      refine gp_iret rfl dX0_root_18 (by omega) (by omega) ?_
      first | exact ⟨by rw [if_pos (by omega)], rfl, rfl⟩ | exact ⟨by rw [if_neg (by omega)], rfl, rfl⟩
    · skip
      refine x_iload_n dX0_root_7 rfl ?_
      refine x_goto (t := 18) dX0_root_8 (by decide) ?_
      refine gp_iret rfl dX0_root_18 (by omega) (by omega) ?_
      first | exact ⟨by rw [if_pos (by omega)], rfl, rfl⟩ | exact ⟨by rw [if_neg (by omega)], rfl, rfl⟩
theorem jc_joins {a : Nat} {p q : Int} (hK : K a = 64) (hN : N a = 20) (h3 : 300 ≤ a) (hd : Dn (I a)) (hp : 0 ≤ p ∧ p < 20) (hq : 0 ≤ q ∧ q < 20) : gP G yX0_joins cX0_joins 5 ((some FieldType.boolean)) 21 0 0 [vR (some a), vI p, vI q] (K, N, I, R) nx (gEq (vI (bi (rt (I a) p ≠ rt (I a) q))) (K, N, rr_u2 I a (max (rt (I a) p) (rt (I a) q)) (min (rt (I a) p) (rt (I a) q)), R) nx) := by
  have e1 := rt_spec hd p hp.1 hp.2
  have e2 := rt_spec hd q hq.1 hq.2
  refine gP.of (by decide) rfl (Nat.le_of_ble_eq_true rfl) ?_
  refine x_ls (ls2 := [some (vR (some a)), some (vI p), some (vI q), none, none]) rfl ?_
  refine x_aload_n dX0_joins_0 rfl ?_
  refine x_iload_n dX0_joins_1 rfl ?_
  refine g_cs2 (jc_root hK hN hd 20 p hp.1 hp.2 (by omega)) fX0_root q324 (by decide) (Nat.le_of_ble_eq_true rfl) (by omega) (by omega) dX0_joins_2 (fun v h2 n2 hp => ?_)
  obtain ⟨rfl, rfl, rfl⟩ := hp
  refine x_istore_n dX0_joins_5 (by decide) ?_
  refine x_aload_n dX0_joins_6 rfl ?_
  refine x_iload_n dX0_joins_7 rfl ?_
  refine g_cs2 (jc_root hK hN hd 20 q hq.1 hq.2 (by omega)) fX0_root q324 (by decide) (Nat.le_of_ble_eq_true rfl) (by omega) (by omega) dX0_joins_8 (fun v h2 n2 hp => ?_)
  obtain ⟨rfl, rfl, rfl⟩ := hp
  refine x_istore dX0_joins_11 (by decide) ?_
  refine x_aload_n dX0_joins_13 rfl ?_
  refine x_iload_n dX0_joins_14 rfl ?_
  refine x_iload dX0_joins_15 rfl ?_
  refine x_mmax (by omega) q327 (by decide) (Nat.le_of_ble_eq_true rfl) dX0_joins_17 ?_ (by omega) (by omega)
  refine x_iload_n dX0_joins_20 rfl ?_
  refine x_iload dX0_joins_21 rfl ?_
  refine x_mmin (by omega) q330 (by decide) (Nat.le_of_ble_eq_true rfl) dX0_joins_23 ?_ (by omega) (by omega)
  refine g_iast (by first | assumption | grind) (by first | assumption | omega) rfl (by omega) dX0_joins_26 ?_
  refine x_iload_n dX0_joins_27 rfl ?_
  refine x_iload dX0_joins_28 rfl ?_
  refine x_icmp_eq (t := 37) dX0_joins_30 (by decide) (by omega) (fun c_30 => ?_) (fun c_30 => ?_)
  · skip
    refine x_iconst dX0_joins_37 ?_
    refine gp_zret rfl dX0_joins_38 (by first | exact Or.inl rfl | exact Or.inr rfl | exact bi_01 _ | omega) (by omega) (by omega) ?_
    exact ⟨by first | rfl | exact rT2 (by omega) | exact rF2 (by omega), rfl, rfl⟩
  · skip
    refine x_iconst dX0_joins_33 ?_
    refine x_goto (t := 38) dX0_joins_34 (by decide) ?_
    refine gp_zret rfl dX0_joins_38 (by first | exact Or.inl rfl | exact Or.inr rfl | exact bi_01 _ | omega) (by omega) (by omega) ?_
    exact ⟨by first | rfl | exact rT2 (by omega) | exact rF2 (by omega), rfl, rfl⟩
theorem jc_isSign {f : Int} (hs : Ss K N R) (ht : Td K N R T) (hf : 0 ≤ I T 0 ∧ I T 0 ≤ 20) (hr : -2147483648 ≤ f ∧ f < 2147483648) (hr2 : ∀ j, 0 ≤ j → j < 20 → 0 ≤ I 332 j ∧ I 332 j ≤ j) : gP G yX0_isSign cX0_isSign 2 ((some FieldType.boolean)) 2 0 0 [vR (some 300), vI f] (K, N, I, R) nx (gEq (vI (bi ((0 ≤ f ∧ f < I T 0) ∧ I 332 f = f))) (K, N, I, R) nx) := by
  have hn332 : N 332 = 20 := hs.n 332 (by decide)
  refine gP.of (by decide) rfl (Nat.le_of_ble_eq_true rfl) ?_
  refine x_ls (ls2 := [some (vR (some 300)), some (vI f)]) rfl ?_
  refine x_aload_n dX0_isSign_0 rfl ?_
  refine x_iload_n dX0_isSign_1 rfl ?_
  refine g_cv1 (ci := 1) (jc_isForm hs ht hf hr) fX0_isForm q1284 rfl (by decide) (hs.k 300 (by decide)) (by decide) (Nat.le_of_ble_eq_true rfl) (by omega) (by omega) dX0_isSign_2 (fun v h2 n2 hp => ?_)
  obtain ⟨rfl, rfl, rfl⟩ := hp
  refine x_if_eq_b (t := 22) dX0_isSign_5 (by decide) (fun c_5 => ?_) (fun c_5 => ?_)
  · skip
    refine x_iconst dX0_isSign_22 ?_
    refine gp_zret rfl dX0_isSign_23 (by first | exact Or.inl rfl | exact Or.inr rfl | exact bi_01 _ | omega) (by omega) (by omega) ?_
    exact ⟨by first | rfl | exact rT2 (by omega) | exact rF2 (by omega), rfl, rfl⟩
  · skip
    have hc := c_5; have hj := hr2 f (by omega) (by omega)
    refine x_aload_n dX0_isSign_8 rfl ?_
    refine g_getR 8 (r := some 332) (ci := 1) (kf := 8) rfl (by decide) (by decide) rfl rfl q1316 rfl (hs.k 300 (by decide)) (hs.r 8 (by decide)) dX0_isSign_9 ?_
    refine x_iload_n dX0_isSign_12 rfl ?_
    refine g_iald (hs.k 332 (by decide)) rfl (by omega) dX0_isSign_13 ?_
    refine x_iload_n dX0_isSign_14 rfl ?_
    refine x_icmp_ne (t := 22) dX0_isSign_15 (by decide) (by omega) (fun c_15 => ?_) (fun c_15 => ?_)
    · skip
      refine x_iconst dX0_isSign_22 ?_
      refine gp_zret rfl dX0_isSign_23 (by first | exact Or.inl rfl | exact Or.inr rfl | exact bi_01 _ | omega) (by omega) (by omega) ?_
      exact ⟨by first | rfl | exact rT2 (by omega) | exact rF2 (by omega), rfl, rfl⟩
    · skip
      refine x_iconst dX0_isSign_18 ?_
      refine x_goto (t := 23) dX0_isSign_19 (by decide) ?_
      refine gp_zret rfl dX0_isSign_23 (by first | exact Or.inl rfl | exact Or.inr rfl | exact bi_01 _ | omega) (by omega) (by omega) ?_
      exact ⟨by first | rfl | exact rT2 (by omega) | exact rF2 (by omega), rfl, rfl⟩
/-- ints alone are written -/
def gI (K N : Nat → Nat) (R : Nat → Int → Option Nat) (nx : Nat) (F : (Nat → Int → Int) → Prop) : rr_H → Nat → Prop := fun h2 n2 => nx = n2 ∧ ∃ I2 : Nat → Int → Int, h2 = (K, N, I2, R) ∧ F I2
def gIv (K N : Nat → Nat) (R : Nat → Int → Option Nat) (nx : Nat) (F : rr_V → (Nat → Int → Int) → Prop) : rr_V → rr_H → Nat → Prop := fun v h2 n2 => nx = n2 ∧ ∃ I2 : Nat → Int → Int, h2 = (K, N, I2, R) ∧ F v I2
theorem rr_u2_at {α : Type} {I : Nat → Int → α} {a : Nat} {i : Int} {v : α} : rr_u2 I a i v a = fun j => if j = i then v else I a j := by
  funext j
  by_cases e : j = i
  · rw [e, rr_u2_same, if_pos rfl]
  · rw [rr_u2_ne _ _ (fun q => e q.2), if_neg e]
theorem rr_u2_upA {I : Nat → Int → Int} {a : Nat} {i : Int} {v : Int} : rr_u2 I a i v a = upA (I a) i v := rr_u2_at
theorem rr_u2_of {α : Type} {I : Nat → Int → α} {a x : Nat} {i : Int} {v : α} (h : x ≠ a) : rr_u2 I a i v x = I x := by
  funext j; rw [rr_u2_ne _ _ (fun q => h q.1)]
def PaP (I : Nat → Int → Int) (a : Nat) (m : Int) (I2 : Nat → Int → Int) : Prop := (∀ x, x ≠ a → I2 x = I x) ∧ ∀ j, 0 ≤ j → j < m → I2 a j = j
/-- a loop from lo to hi, whatever it changes -/
theorem s_for {σ : Type} {W : Int → σ → Prop} (Inv : Int → σ → Prop) (lo hi : Int) (s0 : σ) (h0 : lo ≤ hi) (h : Inv lo s0) (hst : ∀ (q : Int) (s : σ), lo ≤ q → q ≤ hi → Inv q s → (∀ s2, q < hi → Inv (q + 1) s2 → W (q + 1) s2) → W q s) : W lo s0 := by
  have key : ∀ (m : Nat) (q : Int) (s : σ), lo ≤ q → q ≤ hi → hi - q ≤ m → Inv q s → W q s := by
    intro m
    induction m with
    | zero => intro q s h1 h2 h3 h4; exact hst q s h1 h2 h4 (fun s2 h5 _ => by omega)
    | succ m ih => intro q s h1 h2 h3 h4; exact hst q s h1 h2 h4 (fun s2 h5 h6 => ih (q + 1) s2 (by omega) (by omega) (by omega) h6)
  exact key (hi - lo).toNat lo s0 (by omega) h0 (by omega) h
theorem s_for0 {W : Int → Prop} (lo hi : Int) (h0 : lo ≤ hi) (hst : ∀ q : Int, lo ≤ q → q ≤ hi → (q < hi → W (q + 1)) → W q) : W lo :=
  s_for (σ := Unit) (W := fun q _ => W q) (fun _ _ => True) lo hi () h0 trivial (fun q _ h1 h2 _ h3 => hst q h1 h2 (fun h4 => h3 () h4 trivial))
theorem jc_parts {a : Nat} (hK : K a = 64) (hN : N a = 20) (h3 : 300 ≤ a) : gW G yX0_parts cX0_parts 2 (none) 0 0 0 [vR (some a)] (K, N, I, R) nx (gI K N R nx (PaP I a 20)) := by
  refine gW.of (by decide) rfl (Nat.le_of_ble_eq_true rfl) ?_
  refine x_ls (ls2 := [some (vR (some a)), none]) rfl ?_
  refine x_iconst dX0_parts_0 ?_
  refine x_istore_n dX0_parts_1 (by decide) ?_
  refine x_ls (ls2 := [some (vR (some a)), some (vI 0)]) rfl ?_
  refine s_for (W := fun (q : Int) (I1 : Nat → Int → Int) => gw G yX0_parts cX0_parts 2 (none) 0 0 0 (gI K N R nx (PaP I a 20)) 2 [some (vR (some a)), some (vI q)] [] (K, N, I1, R) nx 0 0) (fun q I1 => PaP I a q I1) 0 20 I (by omega) ⟨fun _ _ => rfl, fun j h1 h2 => by omega⟩ ?_
  rintro q I1 h0 hq ⟨hI1, hI2⟩ ih
  refine x_iload_n dX0_parts_2 rfl ?_
  refine x_aload_n dX0_parts_3 rfl ?_
  refine g_alen (t := 0) rfl (by first | assumption | grind) (rfl) dX0_parts_4 ?_
  refine x_icmp_ge (t := 18) dX0_parts_5 (by decide) (by omega) (fun c_5 => ?_) (fun c_5 => ?_)
  · skip
    refine gw_vret rfl dX0_parts_18 (by omega) (by omega) ?_
    exact ⟨rfl, I1, rfl, hI1, fun j h1 h2 => hI2 j h1 (by omega)⟩
  · skip
    refine x_aload_n dX0_parts_8 rfl ?_
    refine x_iload_n dX0_parts_9 rfl ?_
    refine x_iload_n dX0_parts_10 rfl ?_
    refine g_iast (by first | assumption | grind) (by first | assumption | omega) rfl (by omega) dX0_parts_11 ?_
    refine x_iinc dX0_parts_12 rfl (by decide) ?_
    refine x_goto (t := 2) dX0_parts_15 (by decide) ?_
    refine ih (rr_u2 I1 a q q) (by omega) ⟨fun x hx => by rw [rr_u2_of hx]; exact hI1 x hx, fun j h1 h2 => ?_⟩
    rw [rr_u2_at]
    by_cases e : j = q
    · simp [e]
    · simp [e]; exact hI2 j h1 (by omega)
end SYS
