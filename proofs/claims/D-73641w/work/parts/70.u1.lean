/-! SYSTEM 1: forests (root, joins, parts), bits -/
set_option maxRecDepth 100000
def rtN (s : Int → Int) : Nat → Int → Int
  | 0, k => k
  | m + 1, k => if s k = k then k else rtN s m (s k)
/-- the root of k -/
def rt (s : Int → Int) (k : Int) : Int := rtN s 20 k
def Dn (s : Int → Int) : Prop := ∀ k, 0 ≤ k → k < 20 → 0 ≤ s k ∧ s k ≤ k
theorem rtN_fuel {s : Int → Int} (h : Dn s) : ∀ (m : Nat) (j : Int), 0 ≤ j → j < 20 → j ≤ m → rtN s (m + 1) j = rtN s m j := by
  intro m
  induction m with
  | zero =>
    intro j h0 h1 h2
    have := h j h0 h1
    show (if s j = j then j else rtN s 0 (s j)) = j
    rw [if_pos (by omega)]
  | succ m ih =>
    intro j h0 h1 h2
    show (if s j = j then j else rtN s (m + 1) (s j)) = (if s j = j then j else rtN s m (s j))
    by_cases e : s j = j
    · rw [if_pos e, if_pos e]
    · have := h j h0 h1
      rw [if_neg e, if_neg e, ih (s j) (by omega) (by omega) (by omega)]
theorem rt_eq {s : Int → Int} (h : Dn s) {k : Int} (h0 : 0 ≤ k) (h1 : k < 20) : rt s k = if s k = k then k else rt s (s k) := by
  show (if s k = k then k else rtN s 19 (s k)) = _
  by_cases e : s k = k
  · rw [if_pos e, if_pos e]
  · have := h k h0 h1
    rw [if_neg e, if_neg e]
    exact (rtN_fuel h 19 (s k) (by omega) (by omega) (by omega)).symm
theorem rt_ind {P : Int → Prop} (hs : ∀ k, 0 ≤ k → k < 20 → (∀ j, 0 ≤ j → j < k → P j) → P k) : ∀ k, 0 ≤ k → k < 20 → P k := by
  have : ∀ (m : Nat) (k : Int), 0 ≤ k → k < 20 → k < m → P k := by
    intro m
    induction m with
    | zero => intro k h0 h1 h2; omega
    | succ m ih => intro k h0 h1 h2; exact hs k h0 h1 (fun j h3 h4 => ih j h3 (by omega) (by omega))
  intro k h0 h1
  exact this 20 k h0 h1 (by omega)
theorem rt_spec {s : Int → Int} (h : Dn s) : ∀ k, 0 ≤ k → k < 20 → (0 ≤ rt s k ∧ rt s k ≤ k) ∧ s (rt s k) = rt s k := by
  refine rt_ind (fun k h0 h1 ih => ?_)
  rw [rt_eq h h0 h1]
  by_cases e : s k = k
  · rw [if_pos e]; exact ⟨by omega, e⟩
  · have := h k h0 h1
    rw [if_neg e]
    have h2 := ih (s k) (by omega) (by omega)
    exact ⟨by omega, h2.2⟩
theorem rt_fix {s : Int → Int} (h : Dn s) {k : Int} (h0 : 0 ≤ k) (h1 : k < 20) (e : s k = k) : rt s k = k := by
  rw [rt_eq h h0 h1, if_pos e]
theorem Dn.up {s : Int → Int} (h : Dn s) {y x : Int} (hx : 0 ≤ x ∧ x ≤ y) : Dn (upA s y x) := by
  intro k h0 h1
  by_cases e : k = y
  · subst e; rw [upA_s]; exact hx
  · rw [upA_n _ _ e]; exact h k h0 h1
/-- one root is set below the other one -/
theorem rt_join {s : Int → Int} (h : Dn s) {x y : Int} (hx : 0 ≤ x ∧ x ≤ y ∧ y < 20) (ex : s x = x) (ey : s y = y) : ∀ k, 0 ≤ k → k < 20 → rt (upA s y x) k = if rt s k = y then x else rt s k := by
  have h' : Dn (upA s y x) := h.up ⟨hx.1, hx.2.1⟩
  refine rt_ind (fun k h0 h1 ih => ?_)
  by_cases e : k = y
  · subst e
    rw [rt_fix h h0 h1 ey, if_pos rfl]
    by_cases e2 : x = k
    · rw [rt_fix h' h0 h1 (by rw [upA_s, e2]), e2]
    · rw [rt_eq h' h0 h1, upA_s, if_neg e2]
      exact rt_fix h' hx.1 (by omega) (by rw [upA_n _ _ e2]; exact ex)
  · rw [rt_eq h' h0 h1, upA_n _ _ e, rt_eq h h0 h1]
    by_cases e2 : s k = k
    · rw [if_pos e2, if_pos e2, if_neg e]
    · have := h k h0 h1
      rw [if_neg e2, if_neg e2]
      exact ih (s k) (by omega) (by omega)
/-- a way is made short -/
theorem rt_short {s : Int → Int} (h : Dn s) {c : Int} (hc : 0 ≤ c ∧ c < 20) : ∀ k, 0 ≤ k → k < 20 → rt (upA s c (rt s c)) k = rt s k := by
  have hr := rt_spec h c hc.1 hc.2
  have h' : Dn (upA s c (rt s c)) := h.up hr.1
  refine rt_ind (fun k h0 h1 ih => ?_)
  by_cases e : k = c
  · subst e
    by_cases e2 : rt s k = k
    · rw [rt_fix h' h0 h1 (by rw [upA_s, e2]), e2]
    · rw [rt_eq h' h0 h1, upA_s, if_neg e2]
      exact rt_fix h' hr.1.1 (by omega) (by rw [upA_n _ _ e2]; exact hr.2)
  · rw [rt_eq h' h0 h1, upA_n _ _ e, rt_eq h h0 h1]
    by_cases e2 : s k = k
    · rw [if_pos e2, if_pos e2]
    · have := h k h0 h1
      rw [if_neg e2, if_neg e2]
      exact ih (s k) (by omega) (by omega)
/-- all edges of the forest are of the relation -/
def Ed (r : Int → Int → Prop) (n : Int) (s : Int → Int) : Prop := ∀ f, 0 ≤ f → f < n → Con (In2 n r) f (s f)
theorem Ed.root {r : Int → Int → Prop} {n : Int} {s : Int → Int} (h : Dn s) (hn : n ≤ 20) (he : Ed r n s) : ∀ k, 0 ≤ k → k < 20 → k < n → Con (In2 n r) k (rt s k) := by
  refine rt_ind (fun k h0 h1 ih hk => ?_)
  rw [rt_eq h h0 h1]
  by_cases e : s k = k
  · rw [if_pos e]; exact Con.rf _ _
  · have := h k h0 h1
    rw [if_neg e]
    exact (he k h0 hk).trans (ih (s k) (by omega) (by omega) (by omega))
theorem Ed.up {r : Int → Int → Prop} {n : Int} {s : Int → Int} (he : Ed r n s) {y x : Int} (hc : 0 ≤ y → y < n → Con (In2 n r) y x) : Ed r n (upA s y x) := by
  intro f h0 h1
  by_cases e : f = y
  · subst e; rw [upA_s]; exact hc h0 h1
  · rw [upA_n _ _ e]; exact he f h0 h1
/-- joins of a pair that belongs together -/
theorem Ed.join {r : Int → Int → Prop} {n : Int} {s : Int → Int} (h : Dn s) (hn : n ≤ 20) (he : Ed r n s) {a b : Int} (ha : 0 ≤ a ∧ a < n) (hb : 0 ≤ b ∧ b < n) (hr : r a b) : Ed r n (upA s (max (rt s a) (rt s b)) (min (rt s a) (rt s b))) := by
  have e1 := he.root h hn a ha.1 (by omega) ha.2
  have e2 := he.root h hn b hb.1 (by omega) hb.2
  have e3 : Con (In2 n r) (rt s a) (rt s b) := e1.symm.trans ((Con.of ⟨ha, hb, hr⟩).trans e2)
  refine he.up (fun _ _ => ?_)
  rcases Int.le_total (rt s a) (rt s b) with q | q
  · rw [Int.max_eq_right q, Int.min_eq_left q]; exact e3.symm
  · rw [Int.max_eq_left q, Int.min_eq_right q]; exact e3
theorem Dn.join {s : Int → Int} (h : Dn s) {a b : Int} (ha : 0 ≤ a ∧ a < 20) (hb : 0 ≤ b ∧ b < 20) : Dn (upA s (max (rt s a) (rt s b)) (min (rt s a) (rt s b))) ∧ ∀ k, 0 ≤ k → k < 20 → rt (upA s (max (rt s a) (rt s b)) (min (rt s a) (rt s b))) k = if rt s k = max (rt s a) (rt s b) then min (rt s a) (rt s b) else rt s k := by
  have h1 := rt_spec h a ha.1 ha.2
  have h2 := rt_spec h b hb.1 hb.2
  refine ⟨h.up (by omega), rt_join h (by omega) ?_ ?_⟩
  · rcases Int.le_total (rt s a) (rt s b) with q | q
    · rw [Int.min_eq_left q]; exact h1.2
    · rw [Int.min_eq_right q]; exact h2.2
  · rcases Int.le_total (rt s a) (rt s b) with q | q
    · rw [Int.max_eq_right q]; exact h2.2
    · rw [Int.max_eq_left q]; exact h1.2
/-- what is together stays together; the two are -/
theorem Dn.join2 {s : Int → Int} (h : Dn s) {a b : Int} (ha : 0 ≤ a ∧ a < 20) (hb : 0 ≤ b ∧ b < 20) : (∀ p q, 0 ≤ p → p < 20 → 0 ≤ q → q < 20 → rt s p = rt s q → rt (upA s (max (rt s a) (rt s b)) (min (rt s a) (rt s b))) p = rt (upA s (max (rt s a) (rt s b)) (min (rt s a) (rt s b))) q) ∧ rt (upA s (max (rt s a) (rt s b)) (min (rt s a) (rt s b))) a = rt (upA s (max (rt s a) (rt s b)) (min (rt s a) (rt s b))) b := by
  have hj := (h.join ha hb).2
  refine ⟨fun p q h1 h2 h3 h4 e => by rw [hj p h1 h2, hj q h3 h4, e], ?_⟩
  rw [hj a ha.1 ha.2, hj b hb.1 hb.2]
  rcases Int.le_total (rt s a) (rt s b) with q | q
  · rw [Int.max_eq_right q, Int.min_eq_left q, if_pos rfl]; split <;> omega
  · rw [Int.max_eq_left q, Int.min_eq_right q, if_pos rfl]; split <;> omega
theorem Dn.least {r : Int → Int → Prop} {n : Int} {s : Int → Int} (h : Dn s) (hn : n ≤ 20) (he : Ed r n s) (hr : ∀ a b, 0 ≤ a → a < n → 0 ≤ b → b < n → r a b → rt s a = rt s b) : Least r n (rt s) ∧ ∀ f, 0 ≤ f → f < n → Con (In2 n r) f (rt s f) := by
  have hc : ∀ f, 0 ≤ f → f < n → Con (In2 n r) f (rt s f) := fun f h0 h1 => he.root h hn f h0 (by omega) h1
  have mono : ∀ a b, Con (In2 n r) a b → Con r a b := fun a b q E e1 e2 e3 e4 => q E e1 e2 e3 (fun x y z => e4 x y z.2.2)
  exact ⟨fun f h0 h1 => ⟨(rt_spec h f h0 (by omega)).1, mono _ _ (hc f h0 h1), fun g h2 h3 h4 => hr f g h0 h1 h2 h3 h4⟩, hc⟩
/-- two least functions are the same -/
theorem Least.uniq {r : Int → Int → Prop} {n : Int} {s t : Int → Int} (hs : Least r n s) (ht : Least r n t) (cs : ∀ f, 0 ≤ f → f < n → Con (In2 n r) f (s f)) (ct : ∀ f, 0 ≤ f → f < n → Con (In2 n r) f (t f)) : ∀ f, 0 ≤ f → f < n → s f = t f := by
  intro f h0 h1
  have a1 := (hs f h0 h1).1
  have a2 := (ht f h0 h1).1
  -- s (t f) = s f, t (s f) = t f
  have e1 : s (t f) = s f := by
    rcases hs.con (ct f h0 h1) with e | e
    · rw [← e]
    · exact e.symm
  have e2 : t (s f) = t f := by
    rcases ht.con (cs f h0 h1) with e | e
    · rw [← e]
    · exact e.symm
  have b1 := (hs (t f) a2.1 (by omega)).1
  have b2 := (ht (s f) a1.1 (by omega)).1
  omega
theorem tb_and1 {z : Int} : rr_and z 1 = 1 ↔ tb z 0 := by
  unfold tb rr_and
  rw [show (1 : Int) = (Int32.ofInt 1).toInt by decide, Int32.toInt_inj, ← Int32.toBitVec_inj]
  simp only [Int32.toBitVec_and]
  generalize (Int32.ofInt z).toBitVec = v
  constructor
  · intro h
    have h2 := congrArg (fun w : BitVec 32 => w.getLsbD 0) h
    simpa using h2
  · intro h
    apply BitVec.eq_of_getLsbD_eq
    intro i hi
    by_cases e : i = 0
    · subst e; simpa using h
    · simp [e]
theorem tb_shr0 : ∀ c : Fin 32, ((Int32.ofInt (c.val : Int) &&& 31).toBitVec.smod 32).toNat = c.val := by decide +kernel
theorem tb_has {z k : Int} (hk : 0 ≤ k ∧ k < 32) : rr_and (rr_shr z k) 1 = 1 ↔ tb z k := by
  rw [tb_and1]
  unfold tb rr_shr
  rw [rr_oi, Int32.toBitVec_shiftRight, BitVec.sshiftRight_eq', BitVec.getLsbD_sshiftRight]
  have h := tb_shr0 ⟨k.toNat, by omega⟩
  simp only at h
  rw [show ((k.toNat : Nat) : Int) = k by omega] at h
  rw [h]
  simp [show k.toNat < 32 by omega]
