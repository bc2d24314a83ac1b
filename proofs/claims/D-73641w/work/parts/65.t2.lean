/-! TREES 2: rotation to the right, a new leaf -/
set_option maxRecDepth 100000
section TREE
variable {L : List Nat} {ps lo hi : Nat → Nat} {lf rt pa : Nat → Option Nat} {rot : Option Nat}
def slf (lf rt pa : Nat → Option Nat) (p l : Nat) : Nat → Option Nat := fun x => if x = p then rt l else if pa p = some x ∧ ¬ rt x = some p then some l else lf x
def srt (rt pa : Nat → Option Nat) (p l : Nat) : Nat → Option Nat := fun x => if x = l then some p else if pa p = some x ∧ rt x = some p then some l else rt x
def spa (rt pa : Nat → Option Nat) (p l : Nat) : Nat → Option Nat := fun x => if x = p then some l else if x = l then pa p else if rt l = some x then some p else pa x
theorem Trr.rotR (h : Trr L ps lo hi lf rt pa rot) {p l : Nat} (hp : p ∈ L) (hl : lf p = some l) :
    Trr L ps (fun x => if x = l then lo p else if x = p then ps l + 1 else lo x) (fun x => if x = l then hi p else hi x) (slf lf rt pa p l) (srt rt pa p l) (spa rt pa p l) (rro pa p l rot) := by
  have hlc := h.lc hp hl
  have hpc := fun q => h.pc (q := q) hp
  have hrc := fun r => h.rc (r := r) hlc.1
  obtain ⟨c1, c2, c3, c4, c5, c6, c7, c8, c9, c10, c11⟩ := h
  have b1 := c3 p hp
  have b2 := c3 l hlc.1
  refine ⟨c1, c2, ?_, ?_, ?_, ?_, ?_, ?_, ?_, ?_, ?_⟩
  · intro e he
    have := c3 e he
    grind
  · intro e he
    unfold slf
    grind
  · intro e r he
    unfold slf spa
    grind
  · intro e he
    unfold srt
    grind
  · intro e r he
    unfold srt spa
    grind
  · intro e he
    unfold spa rro
    grind
  · intro e q he
    unfold spa slf srt
    grind
  · unfold rro
    grind
  · intro e
    unfold rro spa
    grind
def insA (L : List Nat) (k e : Nat) : List Nat := L.take k ++ e :: L.drop k
theorem insA_at {L : List Nat} {k e : Nat} (hk : k ≤ L.length) (i : Nat) : (insA L k e)[i]? = if i < k then L[i]? else if i = k then some e else L[i - 1]? := by
  unfold insA
  by_cases h1 : i < k
  · rw [if_pos h1, List.getElem?_append_left (by rw [List.length_take]; omega), List.getElem?_take, if_pos h1]
  · rw [if_neg h1, List.getElem?_append_right (by rw [List.length_take]; omega), List.length_take]
    by_cases h2 : i = k
    · rw [if_pos h2, show i - min k L.length = 0 by omega]
      rfl
    · rw [if_neg h2, show i - min k L.length = (i - k - 1) + 1 by omega, List.getElem?_cons_succ, List.getElem?_drop]
      congr 1
      omega
theorem insA_len {L : List Nat} {k e : Nat} (hk : k ≤ L.length) : (insA L k e).length = L.length + 1 := by
  unfold insA
  rw [List.length_append, List.length_cons, List.length_take, List.length_drop]
  omega
theorem insA_mem {L : List Nat} {k e x : Nat} : x ∈ insA L k e ↔ x = e ∨ x ∈ L := by
  unfold insA
  constructor
  · intro h
    rcases List.mem_append.mp h with h | h
    · exact Or.inr (List.mem_of_mem_take h)
    · rcases List.mem_cons.mp h with h | h
      · exact Or.inl h
      · exact Or.inr (List.mem_of_mem_drop h)
  · rintro (h | h)
    · rw [h]; simp
    · have : x ∈ L.take k ++ L.drop k := by rw [List.take_append_drop]; exact h
      rcases List.mem_append.mp this with h | h
      · exact List.mem_append_left _ h
      · exact List.mem_append_right _ (List.mem_cons_of_mem _ h)
theorem Trr.insL (h : Trr L ps lo hi lf rt pa rot) {p e k : Nat} (hp : p ∈ L) (he : e ∉ L) (hl : lf p = none) (hk : k = ps p) :
    Trr (insA L k e) (fun x => if x = e then k else if k ≤ ps x then ps x + 1 else ps x) (fun x => if x = e then k else if k < lo x then lo x + 1 else lo x) (fun x => if x = e then k + 1 else if k < hi x then hi x + 1 else hi x)
      (fun x => if x = p then some e else if x = e then none else lf x) (fun x => if x = e then none else rt x) (fun x => if x = e then some p else pa x) rot := by
  have hinj := fun a => h.inj (a := a) (b := p)
  obtain ⟨c1, c2, c3, c4, c5, c6, c7, c8, c9, c10, c11⟩ := h
  have b1 := c3 p hp
  have b4 := c4 p hp hl
  have hlen := insA_len (L := L) (k := k) (e := e) (by omega)
  have hat := insA_at (L := L) (k := k) (e := e) (by omega)
  have hmem : ∀ x, x ∈ insA L k e ↔ x = e ∨ x ∈ L := fun x => insA_mem
  have hpe : p ≠ e := fun q => he (q ▸ hp)
  refine ⟨?_, ?_, ?_, ?_, ?_, ?_, ?_, ?_, ?_, ?_, ?_⟩
  · intro x hx
    rw [hmem] at hx
    rw [hat]
    by_cases hxe : x = e
    · simp [hxe]
    · have := c1 x (by grind)
      grind
  · intro i x hx
    rw [hat] at hx
    have hm : i < k → L[i]? = some x → x ∈ L := fun _ q => List.mem_of_getElem? q
    have hm2 : L[i - 1]? = some x → x ∈ L := fun q => List.mem_of_getElem? q
    have := c2 i x
    have := c2 (i - 1) x
    grind
  · intro x hx
    rw [hmem] at hx
    rw [hlen]
    have := c3 x
    grind
  · intro x hx
    rw [hmem] at hx
    have := c3 x
    grind
  · intro x l hx
    rw [hmem] at hx
    rw [hmem]
    have := c3 x
    have := c5 x l
    have := hinj x
    grind
  · intro x hx
    rw [hmem] at hx
    have := c3 x
    have := c6 x
    grind
  · intro x r hx
    rw [hmem] at hx
    rw [hmem]
    have := c3 x
    have := c7 x r
    grind
  · intro x hx
    rw [hmem] at hx
    grind
  · intro x q hx
    rw [hmem] at hx
    rw [hmem]
    have := c9 x q
    grind
  · intro q
    have := c10 q
    grind
  · intro r hr
    rw [hmem, hlen]
    have := c11 r hr
    grind
theorem Trr.insR (h : Trr L ps lo hi lf rt pa rot) {p e k : Nat} (hp : p ∈ L) (he : e ∉ L) (hl : rt p = none) (hk : k = ps p + 1) :
    Trr (insA L k e) (fun x => if x = e then k else if k ≤ ps x then ps x + 1 else ps x) (fun x => if x = e then k else if k ≤ lo x then lo x + 1 else lo x) (fun x => if x = e then k + 1 else if k ≤ hi x then hi x + 1 else hi x)
      (fun x => if x = e then none else lf x) (fun x => if x = p then some e else if x = e then none else rt x) (fun x => if x = e then some p else pa x) rot := by
  have hinj := fun a => h.inj (a := a) (b := p)
  obtain ⟨c1, c2, c3, c4, c5, c6, c7, c8, c9, c10, c11⟩ := h
  have b1 := c3 p hp
  have b4 := c6 p hp hl
  have hlen := insA_len (L := L) (k := k) (e := e) (by omega)
  have hat := insA_at (L := L) (k := k) (e := e) (by omega)
  have hmem : ∀ x, x ∈ insA L k e ↔ x = e ∨ x ∈ L := fun x => insA_mem
  have hpe : p ≠ e := fun q => he (q ▸ hp)
  refine ⟨?_, ?_, ?_, ?_, ?_, ?_, ?_, ?_, ?_, ?_, ?_⟩
  · intro x hx
    rw [hmem] at hx
    rw [hat]
    by_cases hxe : x = e
    · simp [hxe]
    · have := c1 x (by grind)
      grind
  · intro i x hx
    rw [hat] at hx
    have hm : i < k → L[i]? = some x → x ∈ L := fun _ q => List.mem_of_getElem? q
    have hm2 : L[i - 1]? = some x → x ∈ L := fun q => List.mem_of_getElem? q
    have := c2 i x
    have := c2 (i - 1) x
    grind
  · intro x hx
    rw [hmem] at hx
    rw [hlen]
    have := c3 x
    grind
  · intro x hx
    rw [hmem] at hx
    have := c3 x
    have := c4 x
    grind
  · intro x l hx
    rw [hmem] at hx
    rw [hmem]
    have := c3 x
    have := c5 x l
    grind
  · intro x hx
    rw [hmem] at hx
    have := c3 x
    have := c6 x
    have := hinj x
    grind
  · intro x r hx
    rw [hmem] at hx
    rw [hmem]
    have := c3 x
    have := c7 x r
    have := hinj x
    grind
  · intro x hx
    rw [hmem] at hx
    grind
  · intro x q hx
    rw [hmem] at hx
    rw [hmem]
    have := c9 x q
    grind
  · intro q
    have := c10 q
    grind
  · intro r hr
    rw [hmem, hlen]
    have := c11 r hr
    grind
theorem Trr.one {e : Nat} (h1 : lf e = none) (h2 : rt e = none) (h3 : pa e = none) : Trr [e] (fun _ => 0) (fun _ => 0) (fun _ => 1) lf rt pa (some e) := by
  refine ⟨?_, ?_, ?_, ?_, ?_, ?_, ?_, ?_, ?_, ?_, ?_⟩
  · intro x hx; simp at hx; simp [hx]
  · intro i x hx
    have := (List.getElem?_eq_some_iff.mp hx).1
    simp at this
    exact this.symm
  · intro x hx; simp
  · intro x hx; simp
  · intro x l hx; simp at hx; simp [hx, h1]
  · intro x hx; simp
  · intro x l hx; simp at hx; simp [hx, h2]
  · intro x hx; simp at hx; simp [hx]
  · intro x q hx; simp at hx; simp [hx, h3]
  · intro q; cases q
  · intro r hr; cases hr; simp [h3]
theorem Trr.nil : Trr [] ps lo hi lf rt pa none := by
  refine ⟨?_, ?_, ?_, ?_, ?_, ?_, ?_, ?_, ?_, ?_, ?_⟩ <;> intros <;> simp_all
end TREE
