/-! SYSTEM 14: groups of forms by those of signs -/
set_option maxRecDepth 100000
section GR
variable {J : Nat → Int → Int} {P : Int → Int → Int → Prop} {k n : Int} {s : Int → Int}
/-- the ghost's groups: those of the signs -/
def GsE (J : Nat → Int → Int) (k : Int) (s : Int → Int) : Prop := ∀ g, 0 ≤ g → g < J 360 4 → J 383 (20 * k + g) = s (J 371 g)
theorem Con.map {r r' : Int → Int → Prop} (h : ∀ a b, r a b → r' a b) {a b : Int} (hc : Con r a b) : Con r' a b := fun E e1 e2 e3 e4 => hc E e1 e2 e3 (fun x y w => e4 x y (h x y w))
theorem Con.keep {r : Int → Int → Prop} {S : Int → Prop} (h : ∀ a b, r a b → (S a ∧ S b)) {a b : Int} (hc : Con r a b) : a = b ∨ (S a ∧ S b) := by
  refine hc (fun x y => x = y ∨ (S x ∧ S y)) (fun x => Or.inl rfl) ?_ ?_ (fun x y w => Or.inr (h x y w))
  · rintro x y (rfl | w)
    · exact Or.inl rfl
    · exact Or.inr ⟨w.2, w.1⟩
  · rintro x y z (rfl | w) (rfl | v)
    · exact Or.inl rfl
    · exact Or.inr v
    · exact Or.inr w
    · exact Or.inr ⟨w.1, v.2⟩
theorem GsE.fin (h : GsE J k s) (hc : Cls (P k) (J 360 4) s) (hn : J 360 4 ≤ 20) (hsg : SgOK J) (hP : ∀ a b, P k a b → J 371 a = a ∧ J 371 b = b) : GrFin J P k ∧ GrL J k := by
  have e : ∀ f, 0 ≤ f → f < J 360 4 → sh k (J 383) f = s (J 371 f) := fun f h0 h1 => h f h0 h1
  have hsgn : ∀ a, 0 ≤ a → a < J 360 4 → J 371 a = a → J 371 (s a) = s a := fun a h0 h1 ha => by
    rcases Con.keep (S := fun x => J 371 x = x) (fun x y (w : In2 (J 360 4) (P k) x y) => hP x y w.2.2) (hc.2.1 a h0 h1) with w | w
    · rw [← w]; exact ha
    · exact w.2
  refine ⟨⟨fun f h0 h1 => ?_, fun a b a0 a1 b0 b1 ht => ?_⟩, fun g g0 g1 => ?_⟩
  · obtain ⟨h2, h3⟩ := hsg f h0 h1
    rw [e f h0 h1]
    have h4 := hc.2.2 (J 371 f) h2.1 (by omega)
    refine ⟨by omega, Con.trans (Con.of ⟨⟨h0, h1⟩, ⟨h2.1, by omega⟩, Or.inl h3.symm⟩) ?_⟩
    exact Con.map (fun a b w => ⟨w.1, w.2.1, Or.inr (by rw [(hP a b w.2.2).1, (hP a b w.2.2).2]; exact w.2.2)⟩) (hc.2.1 (J 371 f) h2.1 (by omega))
  · rw [e a a0 a1, e b b0 b1]
    have ha := (hsg a a0 a1).1
    have hb := (hsg b b0 b1).1
    rcases ht with w | w
    · rw [w]; omega
    · have := (hc.1 (J 371 a) ha.1 (by omega)).2.2 (J 371 b) hb.1 (by omega) w
      omega
  · obtain ⟨h2, h3⟩ := hsg g g0 g1
    have h4 := hc.2.2 (J 371 g) h2.1 (by omega)
    have h5 := hsgn (J 371 g) h2.1 (by omega) h3
    rw [h g g0 g1]
    refine ⟨h5, ?_⟩
    rw [h (s (J 371 g)) h4.1.1 (by omega), h5]
    exact h4.2
end GR
