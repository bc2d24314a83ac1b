/-! SYSTEM 15: reads -/
set_option maxRecDepth 100000
section RD
variable {G : rr_G} {nx : Nat} {K N : Nat → Nat} {I I1 I2 J : Nat → Int → Int} {R : Nat → Int → Option Nat} {T c : Nat} {w : Int}
abbrev chs (l : List Int) : List Int := l.map (97 + ·)
theorem jc_reads {P : Prop} [Decidable P] (hs : Ss K N R) (hr : RowR K N I J T c w) (hok : RowOK J w) (hn : J 360 4 ≤ 20) (hsg : ∀ f, 0 ≤ f → f < J 360 4 → I 332 f = J 371 f ∧ 0 ≤ J 371 f ∧ J 371 f < 20) : gP G yX0_reads cX0_reads 6 ((some (FieldType.object "java/lang/String"))) 6 4 39 [vR (some 300), vR (some c), vI (bi P)] (K, N, I, R) nx (AlS K N I R nx (chs (rowL J w P))) := by
  have hn332 : N 332 = 20 := hs.n 332 (by decide)
  obtain ⟨⟨hKc, hNc⟩, hI, -⟩ := hr
  have hl := hok.1
  have hv := hok.2.1
  refine gP.of (by decide) rfl (Nat.le_of_ble_eq_true rfl) ?_
  refine x_ls (ls2 := [some (vR (some 300)), some (vR (some c)), some (vI (bi P)), none, none, none]) rfl ?_
  refine x_live (fun hlv h3 => ?_)
  have hcx : c < nx := hlv c (by show K c ≠ 0; omega)
  have h0x : 300 < nx := hlv 300 (by show K 300 ≠ 0; rw [hs.k 300 (k := 1) (by decide)]; decide)
  have h2x : 332 < nx := hlv 332 (by show K 332 ≠ 0; rw [hs.k 332 (k := 64) (by decide)]; decide)
  refine g_new 15 rfl (by decide) q364 q365 q151 (by omega) (by omega) dX0_reads_0 ?_
  refine x_dup dX0_reads_3 rfl ?_
  refine g_ci0 (jc_sbinit (by simp [rr_u1]) h3) fJ6_init q366 (by decide) (Nat.le_of_ble_eq_true rfl) (by omega) (by omega) dX0_reads_4 (fun h2 n2 hp => ?_)
  obtain ⟨rfl, rfl⟩ := hp
  refine x_astore_n dX0_reads_7 (by decide) ?_
  refine x_iconst dX0_reads_8 ?_
  refine x_istore dX0_reads_9 (by decide) ?_
  trace_state
  sorry
end RD
