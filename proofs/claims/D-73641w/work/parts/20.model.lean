set_option maxRecDepth 100000
/-! THE MODEL: its picture: the object at 360, its arrays behind it -/
def mKo : Nat → Nat := fun x => match x with
  | 0 => 2
  | 1 => 65
  | 2 => 64
  | 3 => 64
  | 4 => 64
  | 5 => 64
  | 6 => 64
  | 7 => 64
  | 8 => 64
  | 9 => 64
  | 10 => 64
  | 11 => 64
  | 12 => 64
  | 13 => 64
  | 14 => 64
  | 15 => 64
  | 16 => 64
  | 17 => 64
  | 18 => 64
  | 19 => 64
  | 20 => 64
  | 21 => 64
  | 22 => 66
  | 23 => 64
  | 24 => 64
  | 25 => 64
  | 26 => 64
  | 27 => 64
  | 28 => 64
  | 29 => 64
  | 30 => 64
  | _ => 0
def mNo : Nat → Nat := fun x => match x with
  | 1 => 300
  | 2 => 100
  | 3 => 105
  | 4 => 7
  | 5 => 28
  | 6 => 280
  | 7 => 5
  | 8 => 35
  | 9 => 460
  | 10 => 9200
  | 11 => 20
  | 12 => 20
  | 13 => 25
  | 14 => 240
  | 15 => 7
  | 16 => 241
  | 17 => 1687
  | 18 => 241
  | 19 => 20
  | 20 => 20
  | 21 => 240
  | 22 => 800
  | 23 => 40
  | 24 => 20
  | 25 => 40
  | 26 => 4
  | 27 => 4
  | 28 => 20
  | 29 => 20
  | 30 => 20
  | _ => 0
def mRo : Nat → Option Nat := fun x => match x with
  | 0 => some 361
  | 6 => some 362
  | 7 => some 363
  | 9 => some 364
  | 10 => some 365
  | 11 => some 366
  | 13 => some 367
  | 14 => some 368
  | 15 => some 369
  | 16 => some 370
  | 18 => some 371
  | 20 => some 372
  | 21 => some 373
  | 22 => some 374
  | 24 => some 375
  | 27 => some 376
  | 28 => some 377
  | 29 => some 378
  | 30 => some 379
  | 31 => some 380
  | 33 => some 381
  | 34 => some 382
  | 35 => some 383
  | 36 => some 384
  | 37 => some 385
  | 38 => some 386
  | 39 => some 387
  | 42 => some 388
  | 43 => some 389
  | 44 => some 390
  | _ => none
def mK : Nat → Nat := fun x => if x < 360 then 0 else mKo (x - 360)
def mN : Nat → Nat := fun x => if x < 360 then 0 else mNo (x - 360)
def mR : Nat → Int → Option Nat := fun x k => if x = 360 then mRo k.toNat else none
abbrev mh (I : Nat → Int → Int) : rr_H := (mK, mN, I, mR)
/-- a contract of the model: answer and ints behind it -/
def mC (y : MethodName) (cc : ByteArray) (nL : Nat) (ret : Option FieldType) (d : Nat) (as : List rr_V) (I : Nat → Int → Int) (r : Option rr_V) (I' : Nat → Int → Int) : Prop :=
  ∀ (G : rr_G) (nx : Nat), rr_Cn G y cc nL ret d 0 0 as (mh I) nx (fun r2 h2 n2 => r2 = r ∧ h2 = mh I' ∧ n2 = nx)
/-- the judgement for the model's methods -/
abbrev mm (G : rr_G) (y : MethodName) (cc : ByteArray) (nL : Nat) (ret : Option FieldType) (d nx : Nat) (r : Option rr_V) (I' : Nat → Int → Int) (pc : Nat) (ls : List (Option rr_V)) (st : List rr_V) (I : Nat → Int → Int) : Prop :=
  rr_R G y cc nL ret d 0 0 (rr_N G 0 0 (fun r2 h2 n2 => r2 = r ∧ h2 = mh I' ∧ n2 = nx)) pc ls st (mh I) nx 0 0
theorem mC.of {y : MethodName} {cc : ByteArray} {nL : Nat} {ret : Option FieldType} {d : Nat} {as : List rr_V} {I I' : Nat → Int → Int} {r : Option rr_V} (hy : plainName y.cls = true) (ha : (as.map some).all rr_nj = true) (hn : as.length ≤ nL)
    (k : ∀ (G : rr_G) (nx : Nat), mm G y cc nL ret d nx r I' 0 (as.map some ++ List.replicate (nL - as.length) none) [] I) : mC y cc nL ret d as I r I' := fun G nx => rr_entry hy ha hn (k G nx)
section MODEL
variable {G : rr_G} {y : MethodName} {cc : ByteArray} {nL : Nat} {ret : Option FieldType} {d mc ms : Nat} {Post : Option rr_V → rr_H → Nat → Prop} {Q : List Frame → Array Value → State → State → Prop} {pc : Nat} {ls : List (Option rr_V)} {st rest : List rr_V} {I : Nat → Int → Int} {nx cu su : Nat}
theorem m_getI {kf idx : Nat} {ref : String} (kz : Int) (hk : kf < 46) (hf : rr_fk (rr_ty 2 kf) = 0) (hz : (kf : Int) = kz) (hq : Cond.fieldLink y.cls idx ref (TX4 kf).2.1 (TX4 kf).2.2.1 ∈ lw_all) (hre : ref = (TX4 kf).1) (dg : decode cc pc = .ok (.getfield idx, 3))
    (k : rr_R G y cc nL ret d mc ms Q (pc + 3) ls (vI (I 360 kz) :: st) (mh I) nx cu su) : rr_R G y cc nL ret d mc ms Q pc ls (vR (some 360) :: st) (mh I) nx cu su :=
  x_getI (ci := 2) (C := RX4) (T := TX4) (N := 46) kz rfl (by decide) hk hf hz hq hre rfl dg k
theorem m_getA {kf idx a : Nat} {ref : String} (kz : Int) (hk : kf < 46) (hf : rr_fk (rr_ty 2 kf) = 2) (hz : (kf : Int) = kz) (hq : Cond.fieldLink y.cls idx ref (TX4 kf).2.1 (TX4 kf).2.2.1 ∈ lw_all) (hre : ref = (TX4 kf).1) (ha : mR 360 kz = some a) (dg : decode cc pc = .ok (.getfield idx, 3))
    (k : rr_R G y cc nL ret d mc ms Q (pc + 3) ls (vR (some a) :: st) (mh I) nx cu su) : rr_R G y cc nL ret d mc ms Q pc ls (vR (some 360) :: st) (mh I) nx cu su :=
  x_getR (ci := 2) (C := RX4) (T := TX4) (N := 46) kz rfl (by decide) hk hf hz hq hre rfl ha dg k
theorem m_putI {kf idx : Nat} {ref : String} {v : Int} (kz : Int) (hk : kf < 46) (hf : rr_fk (rr_ty 2 kf) = 0) (hz : (kf : Int) = kz) (hq : Cond.fieldLink y.cls idx ref (TX4 kf).2.1 (TX4 kf).2.2.1 ∈ lw_all) (hre : ref = (TX4 kf).1) (hfin : (TX4 kf).2.2.2 = false) (hn : rr_nar (rr_ty 2 kf) v) (dg : decode cc pc = .ok (.putfield idx, 3))
    (k : rr_R G y cc nL ret d mc ms Q (pc + 3) ls st (mh (rr_u2 I 360 kz v)) nx cu su) : rr_R G y cc nL ret d mc ms Q pc ls (vI v :: vR (some 360) :: st) (mh I) nx cu su :=
  x_putI (ci := 2) (C := RX4) (T := TX4) (N := 46) kz rfl (by decide) hk hf hz (Or.inl hq) hre rfl (by decide) (Or.inl hfin) hn dg k
theorem m_iald {a : Nat} {i n : Int} (ha : mK a = 64) (hn : (mN a : Int) = n) (hn2 : n ≤ 2147483648) (hi : 0 ≤ i ∧ i < n) (dg : decode cc pc = .ok (.iaload, 1)) (k : rr_R G y cc nL ret d mc ms Q (pc + 1) ls (vI (I a i) :: st) (mh I) nx cu su) : rr_R G y cc nL ret d mc ms Q pc ls (vI i :: vR (some a) :: st) (mh I) nx cu su :=
  x_iald (n := mN a) ha rfl (by rw [hn]; exact hi) (by omega) dg k
theorem m_bald {a : Nat} {i n : Int} (ha : mK a = 65) (hn : (mN a : Int) = n) (hn2 : n ≤ 2147483648) (hi : 0 ≤ i ∧ i < n) (dg : decode cc pc = .ok (.baload, 1)) (k : rr_R G y cc nL ret d mc ms Q (pc + 1) ls (vI (I a i) :: st) (mh I) nx cu su) : rr_R G y cc nL ret d mc ms Q pc ls (vI i :: vR (some a) :: st) (mh I) nx cu su :=
  x_bald (n := mN a) ha rfl (by rw [hn]; exact hi) (by omega) dg k
theorem m_zald {a : Nat} {i n : Int} (ha : mK a = 66) (hn : (mN a : Int) = n) (hn2 : n ≤ 2147483648) (hi : 0 ≤ i ∧ i < n) (dg : decode cc pc = .ok (.baload, 1)) (k : rr_R G y cc nL ret d mc ms Q (pc + 1) ls (vI (I a i) :: st) (mh I) nx cu su) : rr_R G y cc nL ret d mc ms Q pc ls (vI i :: vR (some a) :: st) (mh I) nx cu su :=
  x_zald (n := mN a) ha rfl (by rw [hn]; exact hi) (by omega) dg k
theorem m_iast {a : Nat} {i n v : Int} (ha : mK a = 64) (hn : (mN a : Int) = n) (hn2 : n ≤ 2147483648) (hi : 0 ≤ i ∧ i < n) (dg : decode cc pc = .ok (.iastore, 1)) (k : rr_R G y cc nL ret d mc ms Q (pc + 1) ls st (mh (rr_u2 I a i v)) nx cu su) : rr_R G y cc nL ret d mc ms Q pc ls (vI v :: vI i :: vR (some a) :: st) (mh I) nx cu su :=
  x_iast (n := mN a) ha (by by_cases h3 : a < 360
                            · simp [mK, h3] at ha
                            · omega) rfl (by rw [hn]; exact hi) (by omega) dg k
theorem m_bast {a : Nat} {i n v : Int} (ha : mK a = 65) (hn : (mN a : Int) = n) (hn2 : n ≤ 2147483648) (hi : 0 ≤ i ∧ i < n) (hv : -128 ≤ v ∧ v < 128) (dg : decode cc pc = .ok (.bastore, 1)) (k : rr_R G y cc nL ret d mc ms Q (pc + 1) ls st (mh (rr_u2 I a i v)) nx cu su) : rr_R G y cc nL ret d mc ms Q pc ls (vI v :: vI i :: vR (some a) :: st) (mh I) nx cu su :=
  x_bast (n := mN a) ha (by by_cases h3 : a < 360
                            · simp [mK, h3] at ha
                            · omega) rfl (by rw [hn]; exact hi) (by omega) hv dg k
theorem m_zast {a : Nat} {i n v : Int} (ha : mK a = 66) (hn : (mN a : Int) = n) (hn2 : n ≤ 2147483648) (hi : 0 ≤ i ∧ i < n) (hv : v = 0 ∨ v = 1) (dg : decode cc pc = .ok (.bastore, 1)) (k : rr_R G y cc nL ret d mc ms Q (pc + 1) ls st (mh (rr_u2 I a i v)) nx cu su) : rr_R G y cc nL ret d mc ms Q pc ls (vI v :: vI i :: vR (some a) :: st) (mh I) nx cu su :=
  x_zast (n := mN a) ha (by by_cases h3 : a < 360
                            · simp [mK, h3] at ha
                            · omega) rfl (by rw [hn]; exact hi) (by omega) hv dg k
theorem m_cv0 {v : rr_V} {I' : Nat → Int → Int} {idx nL' d' : Nat} {y' : MethodName} {cc' : ByteArray} {ret' : Option FieldType} (hM : mC y' cc' nL' ret' d' [vR (some 360)] I (some v) I') (hf : rr_mv RX4 y' cc' nL' ret' 0) (hq : Cond.methodLink y.cls idx y' ∈ lw_all) (hd : d' + 1 ≤ d ∧ nL' ≤ 45) (hw : rr_wd rest ≤ 8) (dg : decode cc pc = .ok (.invokevirtual idx, 3))
    (k : rr_R G y cc nL ret d mc ms Q (pc + 3) ls (v :: rest) (mh I') nx cu su) (hmc : cu ≤ mc := by exact Nat.le_refl _) (hms : su ≤ ms := by exact Nat.le_refl _) : rr_R G y cc nL ret d mc ms Q pc ls (vR (some 360) :: rest) (mh I) nx cu su :=
  x_callv (As := []) (rest := rest) (C := RX4) (T := TX4) (N := 46) (ci := 2) rfl (hM G nx) hf hq rfl (by decide) rfl rfl hd.1 hd.2 hw hmc hms dg (fun r h' nx' q => by obtain ⟨rfl, rfl, rfl⟩ := q; exact k)
theorem m_cs0 {v : rr_V} {I' : Nat → Int → Int} {idx nL' d' : Nat} {y' : MethodName} {cc' : ByteArray} {ret' : Option FieldType} (hM : mC y' cc' nL' ret' d' [] I (some v) I') (hf : rr_ms y' cc' nL' ret' 0) (hq : Cond.methodLink y.cls idx y' ∈ lw_all) (hd : d' + 1 ≤ d ∧ nL' ≤ 45) (hw : rr_wd rest ≤ 8) (dg : decode cc pc = .ok (.invokestatic idx, 3))
    (k : rr_R G y cc nL ret d mc ms Q (pc + 3) ls (v :: rest) (mh I') nx cu su) (hmc : cu ≤ mc := by exact Nat.le_refl _) (hms : su ≤ ms := by exact Nat.le_refl _) : rr_R G y cc nL ret d mc ms Q pc ls (rest) (mh I) nx cu su :=
  x_calls (As := []) (rest := rest) rfl (hM G nx) hf hq rfl hd.1 hd.2 hw hmc hms dg (fun r h' nx' q => by obtain ⟨rfl, rfl, rfl⟩ := q; exact k)
theorem m_cw0 {I' : Nat → Int → Int} {idx nL' d' : Nat} {y' : MethodName} {cc' : ByteArray} {ret' : Option FieldType} (hM : mC y' cc' nL' ret' d' [vR (some 360)] I none I') (hf : rr_mv RX4 y' cc' nL' ret' 0) (hq : Cond.methodLink y.cls idx y' ∈ lw_all) (hd : d' + 1 ≤ d ∧ nL' ≤ 45) (hw : rr_wd rest ≤ 8) (dg : decode cc pc = .ok (.invokevirtual idx, 3))
    (k : rr_R G y cc nL ret d mc ms Q (pc + 3) ls rest (mh I') nx cu su) (hmc : cu ≤ mc := by exact Nat.le_refl _) (hms : su ≤ ms := by exact Nat.le_refl _) : rr_R G y cc nL ret d mc ms Q pc ls (vR (some 360) :: rest) (mh I) nx cu su :=
  x_callv (As := []) (rest := rest) (C := RX4) (T := TX4) (N := 46) (ci := 2) rfl (hM G nx) hf hq rfl (by decide) rfl rfl hd.1 hd.2 hw hmc hms dg (fun r h' nx' q => by obtain ⟨rfl, rfl, rfl⟩ := q; exact k)
theorem m_ct0 {I' : Nat → Int → Int} {idx nL' d' : Nat} {y' : MethodName} {cc' : ByteArray} {ret' : Option FieldType} (hM : mC y' cc' nL' ret' d' [] I none I') (hf : rr_ms y' cc' nL' ret' 0) (hq : Cond.methodLink y.cls idx y' ∈ lw_all) (hd : d' + 1 ≤ d ∧ nL' ≤ 45) (hw : rr_wd rest ≤ 8) (dg : decode cc pc = .ok (.invokestatic idx, 3))
    (k : rr_R G y cc nL ret d mc ms Q (pc + 3) ls rest (mh I') nx cu su) (hmc : cu ≤ mc := by exact Nat.le_refl _) (hms : su ≤ ms := by exact Nat.le_refl _) : rr_R G y cc nL ret d mc ms Q pc ls (rest) (mh I) nx cu su :=
  x_calls (As := []) (rest := rest) rfl (hM G nx) hf hq rfl hd.1 hd.2 hw hmc hms dg (fun r h' nx' q => by obtain ⟨rfl, rfl, rfl⟩ := q; exact k)
theorem m_cv1 {a1 : rr_V} {v : rr_V} {I' : Nat → Int → Int} {idx nL' d' : Nat} {y' : MethodName} {cc' : ByteArray} {ret' : Option FieldType} (hM : mC y' cc' nL' ret' d' [vR (some 360), a1] I (some v) I') (hf : rr_mv RX4 y' cc' nL' ret' 1) (hq : Cond.methodLink y.cls idx y' ∈ lw_all) (hd : d' + 1 ≤ d ∧ nL' ≤ 45) (hw : rr_wd rest ≤ 8) (dg : decode cc pc = .ok (.invokevirtual idx, 3))
    (k : rr_R G y cc nL ret d mc ms Q (pc + 3) ls (v :: rest) (mh I') nx cu su) (hmc : cu ≤ mc := by exact Nat.le_refl _) (hms : su ≤ ms := by exact Nat.le_refl _) : rr_R G y cc nL ret d mc ms Q pc ls (a1 :: vR (some 360) :: rest) (mh I) nx cu su :=
  x_callv (As := [a1]) (rest := rest) (C := RX4) (T := TX4) (N := 46) (ci := 2) rfl (hM G nx) hf hq rfl (by decide) rfl rfl hd.1 hd.2 hw hmc hms dg (fun r h' nx' q => by obtain ⟨rfl, rfl, rfl⟩ := q; exact k)
theorem m_cs1 {a1 : rr_V} {v : rr_V} {I' : Nat → Int → Int} {idx nL' d' : Nat} {y' : MethodName} {cc' : ByteArray} {ret' : Option FieldType} (hM : mC y' cc' nL' ret' d' [a1] I (some v) I') (hf : rr_ms y' cc' nL' ret' 1) (hq : Cond.methodLink y.cls idx y' ∈ lw_all) (hd : d' + 1 ≤ d ∧ nL' ≤ 45) (hw : rr_wd rest ≤ 8) (dg : decode cc pc = .ok (.invokestatic idx, 3))
    (k : rr_R G y cc nL ret d mc ms Q (pc + 3) ls (v :: rest) (mh I') nx cu su) (hmc : cu ≤ mc := by exact Nat.le_refl _) (hms : su ≤ ms := by exact Nat.le_refl _) : rr_R G y cc nL ret d mc ms Q pc ls (a1 :: rest) (mh I) nx cu su :=
  x_calls (As := [a1]) (rest := rest) rfl (hM G nx) hf hq rfl hd.1 hd.2 hw hmc hms dg (fun r h' nx' q => by obtain ⟨rfl, rfl, rfl⟩ := q; exact k)
theorem m_cw1 {a1 : rr_V} {I' : Nat → Int → Int} {idx nL' d' : Nat} {y' : MethodName} {cc' : ByteArray} {ret' : Option FieldType} (hM : mC y' cc' nL' ret' d' [vR (some 360), a1] I none I') (hf : rr_mv RX4 y' cc' nL' ret' 1) (hq : Cond.methodLink y.cls idx y' ∈ lw_all) (hd : d' + 1 ≤ d ∧ nL' ≤ 45) (hw : rr_wd rest ≤ 8) (dg : decode cc pc = .ok (.invokevirtual idx, 3))
    (k : rr_R G y cc nL ret d mc ms Q (pc + 3) ls rest (mh I') nx cu su) (hmc : cu ≤ mc := by exact Nat.le_refl _) (hms : su ≤ ms := by exact Nat.le_refl _) : rr_R G y cc nL ret d mc ms Q pc ls (a1 :: vR (some 360) :: rest) (mh I) nx cu su :=
  x_callv (As := [a1]) (rest := rest) (C := RX4) (T := TX4) (N := 46) (ci := 2) rfl (hM G nx) hf hq rfl (by decide) rfl rfl hd.1 hd.2 hw hmc hms dg (fun r h' nx' q => by obtain ⟨rfl, rfl, rfl⟩ := q; exact k)
theorem m_ct1 {a1 : rr_V} {I' : Nat → Int → Int} {idx nL' d' : Nat} {y' : MethodName} {cc' : ByteArray} {ret' : Option FieldType} (hM : mC y' cc' nL' ret' d' [a1] I none I') (hf : rr_ms y' cc' nL' ret' 1) (hq : Cond.methodLink y.cls idx y' ∈ lw_all) (hd : d' + 1 ≤ d ∧ nL' ≤ 45) (hw : rr_wd rest ≤ 8) (dg : decode cc pc = .ok (.invokestatic idx, 3))
    (k : rr_R G y cc nL ret d mc ms Q (pc + 3) ls rest (mh I') nx cu su) (hmc : cu ≤ mc := by exact Nat.le_refl _) (hms : su ≤ ms := by exact Nat.le_refl _) : rr_R G y cc nL ret d mc ms Q pc ls (a1 :: rest) (mh I) nx cu su :=
  x_calls (As := [a1]) (rest := rest) rfl (hM G nx) hf hq rfl hd.1 hd.2 hw hmc hms dg (fun r h' nx' q => by obtain ⟨rfl, rfl, rfl⟩ := q; exact k)
theorem m_cv2 {a1 a2 : rr_V} {v : rr_V} {I' : Nat → Int → Int} {idx nL' d' : Nat} {y' : MethodName} {cc' : ByteArray} {ret' : Option FieldType} (hM : mC y' cc' nL' ret' d' [vR (some 360), a1, a2] I (some v) I') (hf : rr_mv RX4 y' cc' nL' ret' 2) (hq : Cond.methodLink y.cls idx y' ∈ lw_all) (hd : d' + 1 ≤ d ∧ nL' ≤ 45) (hw : rr_wd rest ≤ 8) (dg : decode cc pc = .ok (.invokevirtual idx, 3))
    (k : rr_R G y cc nL ret d mc ms Q (pc + 3) ls (v :: rest) (mh I') nx cu su) (hmc : cu ≤ mc := by exact Nat.le_refl _) (hms : su ≤ ms := by exact Nat.le_refl _) : rr_R G y cc nL ret d mc ms Q pc ls (a2 :: a1 :: vR (some 360) :: rest) (mh I) nx cu su :=
  x_callv (As := [a1, a2]) (rest := rest) (C := RX4) (T := TX4) (N := 46) (ci := 2) rfl (hM G nx) hf hq rfl (by decide) rfl rfl hd.1 hd.2 hw hmc hms dg (fun r h' nx' q => by obtain ⟨rfl, rfl, rfl⟩ := q; exact k)
theorem m_cs2 {a1 a2 : rr_V} {v : rr_V} {I' : Nat → Int → Int} {idx nL' d' : Nat} {y' : MethodName} {cc' : ByteArray} {ret' : Option FieldType} (hM : mC y' cc' nL' ret' d' [a1, a2] I (some v) I') (hf : rr_ms y' cc' nL' ret' 2) (hq : Cond.methodLink y.cls idx y' ∈ lw_all) (hd : d' + 1 ≤ d ∧ nL' ≤ 45) (hw : rr_wd rest ≤ 8) (dg : decode cc pc = .ok (.invokestatic idx, 3))
    (k : rr_R G y cc nL ret d mc ms Q (pc + 3) ls (v :: rest) (mh I') nx cu su) (hmc : cu ≤ mc := by exact Nat.le_refl _) (hms : su ≤ ms := by exact Nat.le_refl _) : rr_R G y cc nL ret d mc ms Q pc ls (a2 :: a1 :: rest) (mh I) nx cu su :=
  x_calls (As := [a1, a2]) (rest := rest) rfl (hM G nx) hf hq rfl hd.1 hd.2 hw hmc hms dg (fun r h' nx' q => by obtain ⟨rfl, rfl, rfl⟩ := q; exact k)
theorem m_cw2 {a1 a2 : rr_V} {I' : Nat → Int → Int} {idx nL' d' : Nat} {y' : MethodName} {cc' : ByteArray} {ret' : Option FieldType} (hM : mC y' cc' nL' ret' d' [vR (some 360), a1, a2] I none I') (hf : rr_mv RX4 y' cc' nL' ret' 2) (hq : Cond.methodLink y.cls idx y' ∈ lw_all) (hd : d' + 1 ≤ d ∧ nL' ≤ 45) (hw : rr_wd rest ≤ 8) (dg : decode cc pc = .ok (.invokevirtual idx, 3))
    (k : rr_R G y cc nL ret d mc ms Q (pc + 3) ls rest (mh I') nx cu su) (hmc : cu ≤ mc := by exact Nat.le_refl _) (hms : su ≤ ms := by exact Nat.le_refl _) : rr_R G y cc nL ret d mc ms Q pc ls (a2 :: a1 :: vR (some 360) :: rest) (mh I) nx cu su :=
  x_callv (As := [a1, a2]) (rest := rest) (C := RX4) (T := TX4) (N := 46) (ci := 2) rfl (hM G nx) hf hq rfl (by decide) rfl rfl hd.1 hd.2 hw hmc hms dg (fun r h' nx' q => by obtain ⟨rfl, rfl, rfl⟩ := q; exact k)
theorem m_ct2 {a1 a2 : rr_V} {I' : Nat → Int → Int} {idx nL' d' : Nat} {y' : MethodName} {cc' : ByteArray} {ret' : Option FieldType} (hM : mC y' cc' nL' ret' d' [a1, a2] I none I') (hf : rr_ms y' cc' nL' ret' 2) (hq : Cond.methodLink y.cls idx y' ∈ lw_all) (hd : d' + 1 ≤ d ∧ nL' ≤ 45) (hw : rr_wd rest ≤ 8) (dg : decode cc pc = .ok (.invokestatic idx, 3))
    (k : rr_R G y cc nL ret d mc ms Q (pc + 3) ls rest (mh I') nx cu su) (hmc : cu ≤ mc := by exact Nat.le_refl _) (hms : su ≤ ms := by exact Nat.le_refl _) : rr_R G y cc nL ret d mc ms Q pc ls (a2 :: a1 :: rest) (mh I) nx cu su :=
  x_calls (As := [a1, a2]) (rest := rest) rfl (hM G nx) hf hq rfl hd.1 hd.2 hw hmc hms dg (fun r h' nx' q => by obtain ⟨rfl, rfl, rfl⟩ := q; exact k)
theorem m_cv3 {a1 a2 a3 : rr_V} {v : rr_V} {I' : Nat → Int → Int} {idx nL' d' : Nat} {y' : MethodName} {cc' : ByteArray} {ret' : Option FieldType} (hM : mC y' cc' nL' ret' d' [vR (some 360), a1, a2, a3] I (some v) I') (hf : rr_mv RX4 y' cc' nL' ret' 3) (hq : Cond.methodLink y.cls idx y' ∈ lw_all) (hd : d' + 1 ≤ d ∧ nL' ≤ 45) (hw : rr_wd rest ≤ 8) (dg : decode cc pc = .ok (.invokevirtual idx, 3))
    (k : rr_R G y cc nL ret d mc ms Q (pc + 3) ls (v :: rest) (mh I') nx cu su) (hmc : cu ≤ mc := by exact Nat.le_refl _) (hms : su ≤ ms := by exact Nat.le_refl _) : rr_R G y cc nL ret d mc ms Q pc ls (a3 :: a2 :: a1 :: vR (some 360) :: rest) (mh I) nx cu su :=
  x_callv (As := [a1, a2, a3]) (rest := rest) (C := RX4) (T := TX4) (N := 46) (ci := 2) rfl (hM G nx) hf hq rfl (by decide) rfl rfl hd.1 hd.2 hw hmc hms dg (fun r h' nx' q => by obtain ⟨rfl, rfl, rfl⟩ := q; exact k)
theorem m_cs3 {a1 a2 a3 : rr_V} {v : rr_V} {I' : Nat → Int → Int} {idx nL' d' : Nat} {y' : MethodName} {cc' : ByteArray} {ret' : Option FieldType} (hM : mC y' cc' nL' ret' d' [a1, a2, a3] I (some v) I') (hf : rr_ms y' cc' nL' ret' 3) (hq : Cond.methodLink y.cls idx y' ∈ lw_all) (hd : d' + 1 ≤ d ∧ nL' ≤ 45) (hw : rr_wd rest ≤ 8) (dg : decode cc pc = .ok (.invokestatic idx, 3))
    (k : rr_R G y cc nL ret d mc ms Q (pc + 3) ls (v :: rest) (mh I') nx cu su) (hmc : cu ≤ mc := by exact Nat.le_refl _) (hms : su ≤ ms := by exact Nat.le_refl _) : rr_R G y cc nL ret d mc ms Q pc ls (a3 :: a2 :: a1 :: rest) (mh I) nx cu su :=
  x_calls (As := [a1, a2, a3]) (rest := rest) rfl (hM G nx) hf hq rfl hd.1 hd.2 hw hmc hms dg (fun r h' nx' q => by obtain ⟨rfl, rfl, rfl⟩ := q; exact k)
theorem m_cw3 {a1 a2 a3 : rr_V} {I' : Nat → Int → Int} {idx nL' d' : Nat} {y' : MethodName} {cc' : ByteArray} {ret' : Option FieldType} (hM : mC y' cc' nL' ret' d' [vR (some 360), a1, a2, a3] I none I') (hf : rr_mv RX4 y' cc' nL' ret' 3) (hq : Cond.methodLink y.cls idx y' ∈ lw_all) (hd : d' + 1 ≤ d ∧ nL' ≤ 45) (hw : rr_wd rest ≤ 8) (dg : decode cc pc = .ok (.invokevirtual idx, 3))
    (k : rr_R G y cc nL ret d mc ms Q (pc + 3) ls rest (mh I') nx cu su) (hmc : cu ≤ mc := by exact Nat.le_refl _) (hms : su ≤ ms := by exact Nat.le_refl _) : rr_R G y cc nL ret d mc ms Q pc ls (a3 :: a2 :: a1 :: vR (some 360) :: rest) (mh I) nx cu su :=
  x_callv (As := [a1, a2, a3]) (rest := rest) (C := RX4) (T := TX4) (N := 46) (ci := 2) rfl (hM G nx) hf hq rfl (by decide) rfl rfl hd.1 hd.2 hw hmc hms dg (fun r h' nx' q => by obtain ⟨rfl, rfl, rfl⟩ := q; exact k)
theorem m_ct3 {a1 a2 a3 : rr_V} {I' : Nat → Int → Int} {idx nL' d' : Nat} {y' : MethodName} {cc' : ByteArray} {ret' : Option FieldType} (hM : mC y' cc' nL' ret' d' [a1, a2, a3] I none I') (hf : rr_ms y' cc' nL' ret' 3) (hq : Cond.methodLink y.cls idx y' ∈ lw_all) (hd : d' + 1 ≤ d ∧ nL' ≤ 45) (hw : rr_wd rest ≤ 8) (dg : decode cc pc = .ok (.invokestatic idx, 3))
    (k : rr_R G y cc nL ret d mc ms Q (pc + 3) ls rest (mh I') nx cu su) (hmc : cu ≤ mc := by exact Nat.le_refl _) (hms : su ≤ ms := by exact Nat.le_refl _) : rr_R G y cc nL ret d mc ms Q pc ls (a3 :: a2 :: a1 :: rest) (mh I) nx cu su :=
  x_calls (As := [a1, a2, a3]) (rest := rest) rfl (hM G nx) hf hq rfl hd.1 hd.2 hw hmc hms dg (fun r h' nx' q => by obtain ⟨rfl, rfl, rfl⟩ := q; exact k)
theorem m_cv4 {a1 a2 a3 a4 : rr_V} {v : rr_V} {I' : Nat → Int → Int} {idx nL' d' : Nat} {y' : MethodName} {cc' : ByteArray} {ret' : Option FieldType} (hM : mC y' cc' nL' ret' d' [vR (some 360), a1, a2, a3, a4] I (some v) I') (hf : rr_mv RX4 y' cc' nL' ret' 4) (hq : Cond.methodLink y.cls idx y' ∈ lw_all) (hd : d' + 1 ≤ d ∧ nL' ≤ 45) (hw : rr_wd rest ≤ 8) (dg : decode cc pc = .ok (.invokevirtual idx, 3))
    (k : rr_R G y cc nL ret d mc ms Q (pc + 3) ls (v :: rest) (mh I') nx cu su) (hmc : cu ≤ mc := by exact Nat.le_refl _) (hms : su ≤ ms := by exact Nat.le_refl _) : rr_R G y cc nL ret d mc ms Q pc ls (a4 :: a3 :: a2 :: a1 :: vR (some 360) :: rest) (mh I) nx cu su :=
  x_callv (As := [a1, a2, a3, a4]) (rest := rest) (C := RX4) (T := TX4) (N := 46) (ci := 2) rfl (hM G nx) hf hq rfl (by decide) rfl rfl hd.1 hd.2 hw hmc hms dg (fun r h' nx' q => by obtain ⟨rfl, rfl, rfl⟩ := q; exact k)
theorem m_cs4 {a1 a2 a3 a4 : rr_V} {v : rr_V} {I' : Nat → Int → Int} {idx nL' d' : Nat} {y' : MethodName} {cc' : ByteArray} {ret' : Option FieldType} (hM : mC y' cc' nL' ret' d' [a1, a2, a3, a4] I (some v) I') (hf : rr_ms y' cc' nL' ret' 4) (hq : Cond.methodLink y.cls idx y' ∈ lw_all) (hd : d' + 1 ≤ d ∧ nL' ≤ 45) (hw : rr_wd rest ≤ 8) (dg : decode cc pc = .ok (.invokestatic idx, 3))
    (k : rr_R G y cc nL ret d mc ms Q (pc + 3) ls (v :: rest) (mh I') nx cu su) (hmc : cu ≤ mc := by exact Nat.le_refl _) (hms : su ≤ ms := by exact Nat.le_refl _) : rr_R G y cc nL ret d mc ms Q pc ls (a4 :: a3 :: a2 :: a1 :: rest) (mh I) nx cu su :=
  x_calls (As := [a1, a2, a3, a4]) (rest := rest) rfl (hM G nx) hf hq rfl hd.1 hd.2 hw hmc hms dg (fun r h' nx' q => by obtain ⟨rfl, rfl, rfl⟩ := q; exact k)
theorem m_cw4 {a1 a2 a3 a4 : rr_V} {I' : Nat → Int → Int} {idx nL' d' : Nat} {y' : MethodName} {cc' : ByteArray} {ret' : Option FieldType} (hM : mC y' cc' nL' ret' d' [vR (some 360), a1, a2, a3, a4] I none I') (hf : rr_mv RX4 y' cc' nL' ret' 4) (hq : Cond.methodLink y.cls idx y' ∈ lw_all) (hd : d' + 1 ≤ d ∧ nL' ≤ 45) (hw : rr_wd rest ≤ 8) (dg : decode cc pc = .ok (.invokevirtual idx, 3))
    (k : rr_R G y cc nL ret d mc ms Q (pc + 3) ls rest (mh I') nx cu su) (hmc : cu ≤ mc := by exact Nat.le_refl _) (hms : su ≤ ms := by exact Nat.le_refl _) : rr_R G y cc nL ret d mc ms Q pc ls (a4 :: a3 :: a2 :: a1 :: vR (some 360) :: rest) (mh I) nx cu su :=
  x_callv (As := [a1, a2, a3, a4]) (rest := rest) (C := RX4) (T := TX4) (N := 46) (ci := 2) rfl (hM G nx) hf hq rfl (by decide) rfl rfl hd.1 hd.2 hw hmc hms dg (fun r h' nx' q => by obtain ⟨rfl, rfl, rfl⟩ := q; exact k)
theorem m_ct4 {a1 a2 a3 a4 : rr_V} {I' : Nat → Int → Int} {idx nL' d' : Nat} {y' : MethodName} {cc' : ByteArray} {ret' : Option FieldType} (hM : mC y' cc' nL' ret' d' [a1, a2, a3, a4] I none I') (hf : rr_ms y' cc' nL' ret' 4) (hq : Cond.methodLink y.cls idx y' ∈ lw_all) (hd : d' + 1 ≤ d ∧ nL' ≤ 45) (hw : rr_wd rest ≤ 8) (dg : decode cc pc = .ok (.invokestatic idx, 3))
    (k : rr_R G y cc nL ret d mc ms Q (pc + 3) ls rest (mh I') nx cu su) (hmc : cu ≤ mc := by exact Nat.le_refl _) (hms : su ≤ ms := by exact Nat.le_refl _) : rr_R G y cc nL ret d mc ms Q pc ls (a4 :: a3 :: a2 :: a1 :: rest) (mh I) nx cu su :=
  x_calls (As := [a1, a2, a3, a4]) (rest := rest) rfl (hM G nx) hf hq rfl hd.1 hd.2 hw hmc hms dg (fun r h' nx' q => by obtain ⟨rfl, rfl, rfl⟩ := q; exact k)
theorem m_cv5 {a1 a2 a3 a4 a5 : rr_V} {v : rr_V} {I' : Nat → Int → Int} {idx nL' d' : Nat} {y' : MethodName} {cc' : ByteArray} {ret' : Option FieldType} (hM : mC y' cc' nL' ret' d' [vR (some 360), a1, a2, a3, a4, a5] I (some v) I') (hf : rr_mv RX4 y' cc' nL' ret' 5) (hq : Cond.methodLink y.cls idx y' ∈ lw_all) (hd : d' + 1 ≤ d ∧ nL' ≤ 45) (hw : rr_wd rest ≤ 8) (dg : decode cc pc = .ok (.invokevirtual idx, 3))
    (k : rr_R G y cc nL ret d mc ms Q (pc + 3) ls (v :: rest) (mh I') nx cu su) (hmc : cu ≤ mc := by exact Nat.le_refl _) (hms : su ≤ ms := by exact Nat.le_refl _) : rr_R G y cc nL ret d mc ms Q pc ls (a5 :: a4 :: a3 :: a2 :: a1 :: vR (some 360) :: rest) (mh I) nx cu su :=
  x_callv (As := [a1, a2, a3, a4, a5]) (rest := rest) (C := RX4) (T := TX4) (N := 46) (ci := 2) rfl (hM G nx) hf hq rfl (by decide) rfl rfl hd.1 hd.2 hw hmc hms dg (fun r h' nx' q => by obtain ⟨rfl, rfl, rfl⟩ := q; exact k)
theorem m_cs5 {a1 a2 a3 a4 a5 : rr_V} {v : rr_V} {I' : Nat → Int → Int} {idx nL' d' : Nat} {y' : MethodName} {cc' : ByteArray} {ret' : Option FieldType} (hM : mC y' cc' nL' ret' d' [a1, a2, a3, a4, a5] I (some v) I') (hf : rr_ms y' cc' nL' ret' 5) (hq : Cond.methodLink y.cls idx y' ∈ lw_all) (hd : d' + 1 ≤ d ∧ nL' ≤ 45) (hw : rr_wd rest ≤ 8) (dg : decode cc pc = .ok (.invokestatic idx, 3))
    (k : rr_R G y cc nL ret d mc ms Q (pc + 3) ls (v :: rest) (mh I') nx cu su) (hmc : cu ≤ mc := by exact Nat.le_refl _) (hms : su ≤ ms := by exact Nat.le_refl _) : rr_R G y cc nL ret d mc ms Q pc ls (a5 :: a4 :: a3 :: a2 :: a1 :: rest) (mh I) nx cu su :=
  x_calls (As := [a1, a2, a3, a4, a5]) (rest := rest) rfl (hM G nx) hf hq rfl hd.1 hd.2 hw hmc hms dg (fun r h' nx' q => by obtain ⟨rfl, rfl, rfl⟩ := q; exact k)
theorem m_cw5 {a1 a2 a3 a4 a5 : rr_V} {I' : Nat → Int → Int} {idx nL' d' : Nat} {y' : MethodName} {cc' : ByteArray} {ret' : Option FieldType} (hM : mC y' cc' nL' ret' d' [vR (some 360), a1, a2, a3, a4, a5] I none I') (hf : rr_mv RX4 y' cc' nL' ret' 5) (hq : Cond.methodLink y.cls idx y' ∈ lw_all) (hd : d' + 1 ≤ d ∧ nL' ≤ 45) (hw : rr_wd rest ≤ 8) (dg : decode cc pc = .ok (.invokevirtual idx, 3))
    (k : rr_R G y cc nL ret d mc ms Q (pc + 3) ls rest (mh I') nx cu su) (hmc : cu ≤ mc := by exact Nat.le_refl _) (hms : su ≤ ms := by exact Nat.le_refl _) : rr_R G y cc nL ret d mc ms Q pc ls (a5 :: a4 :: a3 :: a2 :: a1 :: vR (some 360) :: rest) (mh I) nx cu su :=
  x_callv (As := [a1, a2, a3, a4, a5]) (rest := rest) (C := RX4) (T := TX4) (N := 46) (ci := 2) rfl (hM G nx) hf hq rfl (by decide) rfl rfl hd.1 hd.2 hw hmc hms dg (fun r h' nx' q => by obtain ⟨rfl, rfl, rfl⟩ := q; exact k)
theorem m_ct5 {a1 a2 a3 a4 a5 : rr_V} {I' : Nat → Int → Int} {idx nL' d' : Nat} {y' : MethodName} {cc' : ByteArray} {ret' : Option FieldType} (hM : mC y' cc' nL' ret' d' [a1, a2, a3, a4, a5] I none I') (hf : rr_ms y' cc' nL' ret' 5) (hq : Cond.methodLink y.cls idx y' ∈ lw_all) (hd : d' + 1 ≤ d ∧ nL' ≤ 45) (hw : rr_wd rest ≤ 8) (dg : decode cc pc = .ok (.invokestatic idx, 3))
    (k : rr_R G y cc nL ret d mc ms Q (pc + 3) ls rest (mh I') nx cu su) (hmc : cu ≤ mc := by exact Nat.le_refl _) (hms : su ≤ ms := by exact Nat.le_refl _) : rr_R G y cc nL ret d mc ms Q pc ls (a5 :: a4 :: a3 :: a2 :: a1 :: rest) (mh I) nx cu su :=
  x_calls (As := [a1, a2, a3, a4, a5]) (rest := rest) rfl (hM G nx) hf hq rfl hd.1 hd.2 hw hmc hms dg (fun r h' nx' q => by obtain ⟨rfl, rfl, rfl⟩ := q; exact k)
end MODEL
