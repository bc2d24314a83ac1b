/-! TREES: pointers by their places in the order -/
set_option maxRecDepth 100000
/-- L: the entries in order; ps: their places; lo, hi: the stretch of places below each; lf, rt, pa: left, right, parent; rot: the root -/
def Trr (L : List Nat) (ps lo hi : Nat → Nat) (lf rt pa : Nat → Option Nat) (rot : Option Nat) : Prop :=
  (∀ e, e ∈ L → L[ps e]? = some e) ∧ (∀ i e, L[i]? = some e → ps e = i) ∧
  (∀ e, e ∈ L → lo e ≤ ps e ∧ ps e < hi e ∧ hi e ≤ L.length) ∧
  (∀ e, e ∈ L → lf e = none → lo e = ps e) ∧ (∀ e l, e ∈ L → lf e = some l → l ∈ L ∧ pa l = some e ∧ lo l = lo e ∧ hi l = ps e) ∧
  (∀ e, e ∈ L → rt e = none → hi e = ps e + 1) ∧ (∀ e r, e ∈ L → rt e = some r → r ∈ L ∧ pa r = some e ∧ lo r = ps e + 1 ∧ hi r = hi e) ∧
  (∀ e, e ∈ L → pa e = none → rot = some e) ∧ (∀ e p, e ∈ L → pa e = some p → p ∈ L ∧ (lf p = some e ∨ rt p = some e)) ∧
  (rot = none → L = []) ∧ (∀ r, rot = some r → r ∈ L ∧ pa r = none ∧ lo r = 0 ∧ hi r = L.length)
section TREE
variable {L : List Nat} {ps lo hi : Nat → Nat} {lf rt pa : Nat → Option Nat} {rot : Option Nat}
theorem Trr.inj (h : Trr L ps lo hi lf rt pa rot) {a b : Nat} (ha : a ∈ L) (hb : b ∈ L) (e : ps a = ps b) : a = b := by
  have h1 := h.1 a ha
  have h2 := h.1 b hb
  rw [e, h2] at h1
  exact (Option.some.inj h1).symm
/-- facts on the right child -/
theorem Trr.rc (h : Trr L ps lo hi lf rt pa rot) {p r : Nat} (hp : p ∈ L) (hr : rt p = some r) : r ∈ L ∧ pa r = some p ∧ lo r = ps p + 1 ∧ hi r = hi p ∧ p ≠ r ∧ ps p < ps r ∧ lf p ≠ some r ∧ lf r ≠ some p ∧ rt r ≠ some p ∧ pa p ≠ some r := by
  obtain ⟨c1, c2, c3, c4, c5, c6, c7, c8, c9, c10, c11⟩ := h
  obtain ⟨a1, a2, a3, a4⟩ := c7 p r hp hr
  have b1 := c3 p hp
  have b2 := c3 r a1
  refine ⟨a1, a2, a3, a4, ?_, by omega, ?_, ?_, ?_, ?_⟩
  · intro e; rw [e] at a3; rw [e] at b1; omega
  · intro e; have := c5 p r hp e; omega
  · intro e; have := c5 r p a1 e; omega
  · intro e; have := c7 r p a1 e; omega
  · intro e
    rcases (c9 p r hp e).2 with q | q
    · have := c5 r p a1 q; omega
    · have := c7 r p a1 q; omega
theorem Trr.lc (h : Trr L ps lo hi lf rt pa rot) {p l : Nat} (hp : p ∈ L) (hl : lf p = some l) : l ∈ L ∧ pa l = some p ∧ lo l = lo p ∧ hi l = ps p ∧ p ≠ l ∧ ps l < ps p ∧ rt p ≠ some l ∧ lf l ≠ some p ∧ rt l ≠ some p ∧ pa p ≠ some l := by
  obtain ⟨c1, c2, c3, c4, c5, c6, c7, c8, c9, c10, c11⟩ := h
  obtain ⟨a1, a2, a3, a4⟩ := c5 p l hp hl
  have b1 := c3 p hp
  have b2 := c3 l a1
  refine ⟨a1, a2, a3, a4, ?_, by omega, ?_, ?_, ?_, ?_⟩
  · intro e; rw [e] at a4; rw [e] at b1; omega
  · intro e; have := c7 p l hp e; omega
  · intro e; have := c5 l p a1 e; omega
  · intro e; have := c7 l p a1 e; omega
  · intro e
    rcases (c9 p l hp e).2 with q | q
    · have := c5 l p a1 q; omega
    · have := c7 l p a1 q; omega
/-- the parent, and how one lies below it -/
theorem Trr.pc (h : Trr L ps lo hi lf rt pa rot) {p q : Nat} (hp : p ∈ L) (hq : pa p = some q) : q ∈ L ∧ q ≠ p ∧ ((lf q = some p ∧ rt q ≠ some p ∧ lo p = lo q ∧ hi p = ps q) ∨ (rt q = some p ∧ lf q ≠ some p ∧ lo p = ps q + 1 ∧ hi p = hi q)) := by
  obtain ⟨a1, a2⟩ := h.2.2.2.2.2.2.2.2.1 p q hp hq
  rcases a2 with a2 | a2
  · obtain ⟨-, -, b3, b4, b5, -, b7, -⟩ := h.lc a1 a2
    exact ⟨a1, b5, Or.inl ⟨a2, b7, b3, b4⟩⟩
  · obtain ⟨-, -, b3, b4, b5, -, b7, -⟩ := h.rc a1 a2
    exact ⟨a1, b5, Or.inr ⟨a2, b7, b3, b4⟩⟩
def rlf (lf pa : Nat → Option Nat) (p r : Nat) : Nat → Option Nat := fun x => if x = r then some p else if pa p = some x ∧ lf x = some p then some r else lf x
def rrt (lf rt pa : Nat → Option Nat) (p r : Nat) : Nat → Option Nat := fun x => if x = p then lf r else if pa p = some x ∧ ¬ lf x = some p then some r else rt x
def rpa (lf pa : Nat → Option Nat) (p r : Nat) : Nat → Option Nat := fun x => if x = p then some r else if x = r then pa p else if lf r = some x then some p else pa x
def rro (pa : Nat → Option Nat) (p r : Nat) (rot : Option Nat) : Option Nat := if pa p = none then some r else rot
theorem Trr.rotL (h : Trr L ps lo hi lf rt pa rot) {p r : Nat} (hp : p ∈ L) (hr : rt p = some r) :
    Trr L ps (fun x => if x = r then lo p else lo x) (fun x => if x = r then hi p else if x = p then ps r else hi x) (rlf lf pa p r) (rrt lf rt pa p r) (rpa lf pa p r) (rro pa p r rot) := by
  have hrc := h.rc hp hr
  have hpc := fun q => h.pc (q := q) hp
  have hlc := fun l => h.lc (l := l) hrc.1
  obtain ⟨c1, c2, c3, c4, c5, c6, c7, c8, c9, c10, c11⟩ := h
  have b1 := c3 p hp
  have b2 := c3 r hrc.1
  refine ⟨c1, c2, ?_, ?_, ?_, ?_, ?_, ?_, ?_, ?_, ?_⟩
  · intro e he
    have := c3 e he
    grind
  · intro e he
    unfold rlf
    grind
  · intro e l he
    unfold rlf rpa
    grind
  · intro e he
    unfold rrt
    grind
  · intro e l he
    unfold rrt rpa
    grind
  · intro e he
    unfold rpa rro
    grind
  · intro e q he
    unfold rpa rlf rrt
    grind
  · unfold rro
    grind
  · intro e
    unfold rro rpa
    grind
end TREE
