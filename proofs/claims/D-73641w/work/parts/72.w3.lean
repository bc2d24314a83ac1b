/-! SYSTEM 12: laysGrid -/
set_option maxRecDepth 100000
section WD
variable {G : rr_G} {nx : Nat} {K N : Nat → Nat} {I I1 I2 J : Nat → Int → Int} {R : Nat → Int → Option Nat} {T W0 x y : Nat} {p q : List Int} {L : List (List Int × Int)}
/-- ints of other kinds than arrays of ints stay -/
theorem Wd.ints (h : Wd K N I R x p) (hI : ∀ z, K z ≠ 64 → I2 z = I z) : Wd K N I2 R x p := by
  obtain ⟨h1, h2, s, b, h3, h4⟩ := h
  refine ⟨h1, h2, s, b, h3, ⟨h4.1.1, h4.1.2.1, ?_⟩, h4.2.1, ?_, h4.2.2.2⟩
  · rw [hI s (by rw [h4.1.1]; decide)]; exact h4.1.2.2
  · rw [hI b (by rw [h4.2.1.1]; decide)]; exact h4.2.2.1
/-- the words of the lexicon -/
def Wds (K N : Nat → Nat) (I : Nat → Int → Int) (R : Nat → Int → Option Nat) (W0 : Nat) (L : List (List Int × Int)) : Prop := (R 300 15 = some W0 ∧ K W0 = 70 ∧ N W0 = L.length ∧ L.length ≤ 240) ∧ ∀ (j : Nat) (e : List Int × Int), L[j]? = some e → ∃ x, R W0 (j : Int) = some x ∧ Wd K N I R x e.1 ∧ I x 1 = e.2 ∧ I x 2 = (j : Int) ∧ (1 ≤ e.2 ∧ e.2 ≤ 240)
theorem Wds.ints (h : Wds K N I R W0 L) (hI : ∀ z, K z ≠ 64 → I2 z = I z) : Wds K N I2 R W0 L := by
  refine ⟨h.1, fun j e he => ?_⟩
  obtain ⟨x, h1, h2, h3, h4, h5⟩ := h.2 j e he
  exact ⟨x, h1, h2.ints hI, by rw [hI x (by rw [h2.1]; decide)]; exact h3, by rw [hI x (by rw [h2.1]; decide)]; exact h4, h5⟩
/-- clues by hand -/
def CluR (K : Nat → Nat) (I : Nat → Int → Int) (R : Nat → Int → Option Nat) (J : Nat → Int → Int) (T : Nat) : Prop := I T 2 = J 369 3 ∧ ∀ m, 0 ≤ m → m < J 369 3 → ∃ c, R (T + 5) m = some c ∧ K c = 5 ∧ I c 0 = J 369 (424 + 3 * m) ∧ I c 1 = J 369 (424 + 3 * m + 1) ∧ I c 2 = J 369 (424 + 3 * m + 2)
/-- bits of both grids -/
def Gb (C : Int → Int → Int → Prop) (I1 : Nat → Int → Int) : Prop := ∀ u v, 0 ≤ u → u < 20 → 0 ≤ v → v < 32 → (tb (I1 346 u) v ↔ C 0 u v) ∧ (tb (I1 347 u) v ↔ C 1 u v)
def Gf (I I1 : Nat → Int → Int) : Prop := ∀ x, x ≠ 346 → x ≠ 347 → I1 x = I x
theorem Gb.iff {C C' : Int → Int → Int → Prop} (h : Gb C I1) (hc : ∀ k u v, (k = 0 ∨ k = 1) → (C k u v ↔ C' k u v)) : Gb C' I1 := fun u v u0 u1 v0 v1 => ⟨(h u v u0 u1 v0 v1).1.trans (hc 0 u v (Or.inl rfl)), (h u v u0 u1 v0 v1).2.trans (hc 1 u v (Or.inr rfl))⟩
theorem Gb.co {C D : Int → Int → Int → Prop} (h : Gb C I1) (hc : CoP I1 D I2) : Gb (fun k u v => C k u v ∨ D k u v) I2 := fun u v u0 u1 v0 v1 => by
  have h1 := h u v u0 u1 v0 v1
  have h2 := hc.2 u v u0 u1 v0 v1
  exact ⟨h2.1.trans (or_congr h1.1 Iff.rfl), h2.2.trans (or_congr h1.2 Iff.rfl)⟩
theorem Gf.co {D : Int → Int → Int → Prop} (h : Gf I I1) (hc : CoP I1 D I2) : Gf I I2 := fun x h1 h2 => by rw [hc.1 x h1 h2]; exact h x h1 h2
def GdP (J : Nat → Int → Int) (L : List (List Int × Int)) (I I2 : Nat → Int → Int) : Prop := (∀ x, x ≠ 346 → x ≠ 347 → x ≠ 333 → x ≠ 334 → I2 x = I x) ∧ Gb (CL J L) I2 ∧ Cls (CL J L 0) (J 360 4) (I2 333) ∧ Cls (CL J L 1) (J 360 4) (I2 334)
theorem twoOf.sym {a b u v : Int} (h : twoOf a b u v) : twoOf a b v u := by unfold twoOf at *; omega
theorem CL.sym {k u v : Int} (h : CL J L k u v) : CL J L k v u := by
  rcases h with ⟨i, j, p, q, h1, h2, h3, h4, h5⟩ | ⟨m, h1, h2, h3⟩
  · exact Or.inl ⟨i, j, p, q, h1, h2, h3, h4, h5.imp (fun w => ⟨w.1, w.2.sym⟩) (fun w => ⟨w.1, w.2.sym⟩)⟩
  · exact Or.inr ⟨m, h1, h2, h3.sym⟩
theorem clLt_up {w v : Nat} {e f : List Int × Int} (he : L[w]? = some e) (hf : L[v]? = some f) (hwv : w < v) {k a b : Int} : clLt L w (v + 1) k a b ↔ (clLt L w v k a b ∨ clW e.1 f.1 k a b) := by
  constructor
  · rintro ⟨i, j, p, q, h1, h2, h3, h4, h5⟩
    by_cases c : i = w ∧ j = v
    · obtain ⟨rfl, rfl⟩ := c
      rw [he] at h3; rw [hf] at h4
      cases h3; cases h4
      exact Or.inr h5
    · exact Or.inl ⟨i, j, p, q, h1, by omega, h3, h4, h5⟩
  · rintro (⟨i, j, p, q, h1, h2, h3, h4, h5⟩ | h)
    · exact ⟨i, j, p, q, h1, by omega, h3, h4, h5⟩
    · exact ⟨w, v, e, f, hwv, Or.inr ⟨rfl, by omega⟩, he, hf, h⟩
end WD
