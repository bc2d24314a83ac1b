/-! RULES 3: the same for heaps written out (K, N, I, R); calls through interfaces, of inherited methods, of nest mates -/
set_option maxRecDepth 100000
section RULES
variable {G : rr_G} {y : MethodName} {cc : ByteArray} {nL : Nat} {ret : Option FieldType} {d mc ms : Nat} {Post : Option rr_V → rr_H → Nat → Prop} {Q : List Frame → Array Value → State → State → Prop} {pc : Nat} {ls : List (Option rr_V)} {st : List rr_V} {h : rr_H} {nx cu su : Nat}
variable {K N : Nat → Nat} {I : Nat → Int → Int} {R : Nat → Int → Option Nat}
theorem g_getI (kz : Int) {ci kf idx n x : Nat} {C ref : String} {T : u_T} (hc : rr_cl[ci]? = some (C, T, n)) (h0 : ci ≠ 0) (hk : kf < n) (hf : rr_fk (rr_ty ci kf) = 0) (hz : (kf : Int) = kz) (hq : Cond.fieldLink y.cls idx ref (T kf).2.1 (T kf).2.2.1 ∈ lw_all) (hre : ref = (T kf).1) (hx : K x = ci) (dg : decode cc pc = .ok (.getfield idx, 3))
    (k : rr_R G y cc nL ret d mc ms Q (pc + 3) ls (vI (I x kz) :: st) (K, N, I, R) nx cu su) : rr_R G y cc nL ret d mc ms Q pc ls (vR (some x) :: st) (K, N, I, R) nx cu su := x_getI kz hc h0 hk hf hz hq hre hx dg k
theorem g_getJ (kz : Int) {ci kf idx n x : Nat} {C ref : String} {T : u_T} (hc : rr_cl[ci]? = some (C, T, n)) (h0 : ci ≠ 0) (hk : kf < n) (hf : rr_fk (rr_ty ci kf) = 1) (hz : (kf : Int) = kz) (hq : Cond.fieldLink y.cls idx ref (T kf).2.1 (T kf).2.2.1 ∈ lw_all) (hre : ref = (T kf).1) (hx : K x = ci) (dg : decode cc pc = .ok (.getfield idx, 3))
    (k : rr_R G y cc nL ret d mc ms Q (pc + 3) ls (vJ (I x kz) :: st) (K, N, I, R) nx cu su) : rr_R G y cc nL ret d mc ms Q pc ls (vR (some x) :: st) (K, N, I, R) nx cu su := x_getJ kz hc h0 hk hf hz hq hre hx dg k
theorem g_getR (kz : Int) {r : Option Nat} {ci kf idx n x : Nat} {C ref : String} {T : u_T} (hc : rr_cl[ci]? = some (C, T, n)) (h0 : ci ≠ 0) (hk : kf < n) (hf : rr_fk (rr_ty ci kf) = 2) (hz : (kf : Int) = kz) (hq : Cond.fieldLink y.cls idx ref (T kf).2.1 (T kf).2.2.1 ∈ lw_all) (hre : ref = (T kf).1) (hx : K x = ci) (hv : R x kz = r) (dg : decode cc pc = .ok (.getfield idx, 3))
    (k : rr_R G y cc nL ret d mc ms Q (pc + 3) ls (vR r :: st) (K, N, I, R) nx cu su) : rr_R G y cc nL ret d mc ms Q pc ls (vR (some x) :: st) (K, N, I, R) nx cu su := x_getR kz hc h0 hk hf hz hq hre hx hv dg k
theorem g_getIN (kz : Int) {ci kf idx n x : Nat} {C ref host : String} {T : u_T} (hc : rr_cl[ci]? = some (C, T, n)) (h0 : ci ≠ 0) (hk : kf < n) (hf : rr_fk (rr_ty ci kf) = 0) (hz : (kf : Int) = kz) (hq : Cond.fieldLinkNest y.cls idx ref (T kf).2.1 (T kf).2.2.1 host ∈ lw_tbl) (hre : ref = (T kf).1) (hx : K x = ci) (dg : decode cc pc = .ok (.getfield idx, 3))
    (k : rr_R G y cc nL ret d mc ms Q (pc + 3) ls (vI (I x kz) :: st) (K, N, I, R) nx cu su) : rr_R G y cc nL ret d mc ms Q pc ls (vR (some x) :: st) (K, N, I, R) nx cu su := x_getIN kz hc h0 hk hf hz hq hre hx dg k
theorem g_getRN (kz : Int) {r : Option Nat} {ci kf idx n x : Nat} {C ref host : String} {T : u_T} (hc : rr_cl[ci]? = some (C, T, n)) (h0 : ci ≠ 0) (hk : kf < n) (hf : rr_fk (rr_ty ci kf) = 2) (hz : (kf : Int) = kz) (hq : Cond.fieldLinkNest y.cls idx ref (T kf).2.1 (T kf).2.2.1 host ∈ lw_tbl) (hre : ref = (T kf).1) (hx : K x = ci) (hv : R x kz = r) (dg : decode cc pc = .ok (.getfield idx, 3))
    (k : rr_R G y cc nL ret d mc ms Q (pc + 3) ls (vR r :: st) (K, N, I, R) nx cu su) : rr_R G y cc nL ret d mc ms Q pc ls (vR (some x) :: st) (K, N, I, R) nx cu su := x_getRN kz hc h0 hk hf hz hq hre hx hv dg k
theorem g_putI (kz : Int) {v : Int} {ci kf idx n x : Nat} {C ref : String} {T : u_T} (hc : rr_cl[ci]? = some (C, T, n)) (h0 : ci ≠ 0) (hk : kf < n) (hf : rr_fk (rr_ty ci kf) = 0) (hz : (kf : Int) = kz) (hq : Cond.fieldLink y.cls idx ref (T kf).2.1 (T kf).2.2.1 ∈ lw_all) (hre : ref = (T kf).1) (hx : K x = ci) (hx3 : 300 ≤ x)
    (hfin : (T kf).2.2.2 = false ∨ ((T kf).2.2.2 = true ∧ (T kf).1 = y.cls ∧ y.name = "<init>")) (hn : rr_nar (rr_ty ci kf) v) (dg : decode cc pc = .ok (.putfield idx, 3))
    (k : rr_R G y cc nL ret d mc ms Q (pc + 3) ls st (K, N, rr_u2 I x kz v, R) nx cu su) : rr_R G y cc nL ret d mc ms Q pc ls (vI v :: vR (some x) :: st) (K, N, I, R) nx cu su := x_putI kz hc h0 hk hf hz (Or.inl hq) hre hx hx3 hfin hn dg k
theorem g_putIN (kz : Int) {v : Int} {ci kf idx n x : Nat} {C ref host : String} {T : u_T} (hc : rr_cl[ci]? = some (C, T, n)) (h0 : ci ≠ 0) (hk : kf < n) (hf : rr_fk (rr_ty ci kf) = 0) (hz : (kf : Int) = kz) (hq : Cond.fieldLinkNest y.cls idx ref (T kf).2.1 (T kf).2.2.1 host ∈ lw_tbl) (hre : ref = (T kf).1) (hx : K x = ci) (hx3 : 300 ≤ x)
    (hfin : (T kf).2.2.2 = false ∨ ((T kf).2.2.2 = true ∧ (T kf).1 = y.cls ∧ y.name = "<init>")) (hn : rr_nar (rr_ty ci kf) v) (dg : decode cc pc = .ok (.putfield idx, 3))
    (k : rr_R G y cc nL ret d mc ms Q (pc + 3) ls st (K, N, rr_u2 I x kz v, R) nx cu su) : rr_R G y cc nL ret d mc ms Q pc ls (vI v :: vR (some x) :: st) (K, N, I, R) nx cu su := x_putI kz hc h0 hk hf hz (Or.inr ⟨host, rr_x hq rfl⟩) hre hx hx3 hfin hn dg k
theorem g_putJ (kz : Int) {v : Int} {ci kf idx n x : Nat} {C ref : String} {T : u_T} (hc : rr_cl[ci]? = some (C, T, n)) (h0 : ci ≠ 0) (hk : kf < n) (hf : rr_ty ci kf = .long) (hz : (kf : Int) = kz) (hq : Cond.fieldLink y.cls idx ref (T kf).2.1 (T kf).2.2.1 ∈ lw_all) (hre : ref = (T kf).1) (hx : K x = ci) (hx3 : 300 ≤ x)
    (hfin : (T kf).2.2.2 = false ∨ ((T kf).2.2.2 = true ∧ (T kf).1 = y.cls ∧ y.name = "<init>")) (dg : decode cc pc = .ok (.putfield idx, 3))
    (k : rr_R G y cc nL ret d mc ms Q (pc + 3) ls st (K, N, rr_u2 I x kz v, R) nx cu su) : rr_R G y cc nL ret d mc ms Q pc ls (vJ v :: vR (some x) :: st) (K, N, I, R) nx cu su := x_putJ kz hc h0 hk hf hz (Or.inl hq) hre hx hx3 hfin dg k
theorem g_putR (kz : Int) {r : Option Nat} {ci kf idx n x : Nat} {C ref : String} {T : u_T} (hc : rr_cl[ci]? = some (C, T, n)) (h0 : ci ≠ 0) (hk : kf < n) (hf : rr_fk (rr_ty ci kf) = 2) (hz : (kf : Int) = kz) (hq : Cond.fieldLink y.cls idx ref (T kf).2.1 (T kf).2.2.1 ∈ lw_all) (hre : ref = (T kf).1) (hx : K x = ci) (hx3 : 300 ≤ x)
    (hfin : (T kf).2.2.2 = false ∨ ((T kf).2.2.2 = true ∧ (T kf).1 = y.cls ∧ y.name = "<init>")) (dg : decode cc pc = .ok (.putfield idx, 3))
    (k : rr_R G y cc nL ret d mc ms Q (pc + 3) ls st (K, N, I, rr_u2 R x kz r) nx cu su) : rr_R G y cc nL ret d mc ms Q pc ls (vR r :: vR (some x) :: st) (K, N, I, R) nx cu su := x_putR kz hc h0 hk hf hz (Or.inl hq) hre hx hx3 hfin dg k
theorem g_putRN (kz : Int) {r : Option Nat} {ci kf idx n x : Nat} {C ref host : String} {T : u_T} (hc : rr_cl[ci]? = some (C, T, n)) (h0 : ci ≠ 0) (hk : kf < n) (hf : rr_fk (rr_ty ci kf) = 2) (hz : (kf : Int) = kz) (hq : Cond.fieldLinkNest y.cls idx ref (T kf).2.1 (T kf).2.2.1 host ∈ lw_tbl) (hre : ref = (T kf).1) (hx : K x = ci) (hx3 : 300 ≤ x)
    (hfin : (T kf).2.2.2 = false ∨ ((T kf).2.2.2 = true ∧ (T kf).1 = y.cls ∧ y.name = "<init>")) (dg : decode cc pc = .ok (.putfield idx, 3))
    (k : rr_R G y cc nL ret d mc ms Q (pc + 3) ls st (K, N, I, rr_u2 R x kz r) nx cu su) : rr_R G y cc nL ret d mc ms Q pc ls (vR r :: vR (some x) :: st) (K, N, I, R) nx cu su := x_putR kz hc h0 hk hf hz (Or.inr ⟨host, rr_x hq rfl⟩) hre hx hx3 hfin dg k
theorem g_alen {x t n : Nat} {ty : FieldType} (ht : rr_al[t]? = some ty) (hx : K x = 64 + t) (hn : N x = n) (dg : decode cc pc = .ok (.arraylength, 1)) (k : rr_R G y cc nL ret d mc ms Q (pc + 1) ls (vI (n : Int) :: st) (K, N, I, R) nx cu su) : rr_R G y cc nL ret d mc ms Q pc ls (vR (some x) :: st) (K, N, I, R) nx cu su := x_alen hx ht hn dg k
theorem g_iald {x n : Nat} {i : Int} (hx : K x = 64) (hn : N x = n) (hi : (0 ≤ i ∧ i < (n : Int)) ∧ i < 2147483648) (dg : decode cc pc = .ok (.iaload, 1)) (k : rr_R G y cc nL ret d mc ms Q (pc + 1) ls (vI (I x i) :: st) (K, N, I, R) nx cu su) : rr_R G y cc nL ret d mc ms Q pc ls (vI i :: vR (some x) :: st) (K, N, I, R) nx cu su := x_iald hx hn hi.1 hi.2 dg k
theorem g_bald {x n : Nat} {i : Int} (hx : K x = 65) (hn : N x = n) (hi : (0 ≤ i ∧ i < (n : Int)) ∧ i < 2147483648) (dg : decode cc pc = .ok (.baload, 1)) (k : rr_R G y cc nL ret d mc ms Q (pc + 1) ls (vI (I x i) :: st) (K, N, I, R) nx cu su) : rr_R G y cc nL ret d mc ms Q pc ls (vI i :: vR (some x) :: st) (K, N, I, R) nx cu su := x_bald hx hn hi.1 hi.2 dg k
theorem g_aald {x n t : Nat} {i : Int} {ty : FieldType} {r : Option Nat} (ht : rr_al[t]? = some ty) (hf : ty.isReference = true) (hf2 : rr_fk ty = 2) (hx : K x = 64 + t) (hn : N x = n) (hi : (0 ≤ i ∧ i < (n : Int)) ∧ i < 2147483648) (hv : R x i = r) (dg : decode cc pc = .ok (.aaload, 1)) (k : rr_R G y cc nL ret d mc ms Q (pc + 1) ls (vR r :: st) (K, N, I, R) nx cu su) : rr_R G y cc nL ret d mc ms Q pc ls (vI i :: vR (some x) :: st) (K, N, I, R) nx cu su := x_aald hx ht hf hf2 hn hi.1 hi.2 hv dg k
theorem g_iast {x n : Nat} {i v : Int} (hx : K x = 64) (hx3 : 300 ≤ x) (hn : N x = n) (hi : (0 ≤ i ∧ i < (n : Int)) ∧ i < 2147483648) (dg : decode cc pc = .ok (.iastore, 1)) (k : rr_R G y cc nL ret d mc ms Q (pc + 1) ls st (K, N, rr_u2 I x i v, R) nx cu su) : rr_R G y cc nL ret d mc ms Q pc ls (vI v :: vI i :: vR (some x) :: st) (K, N, I, R) nx cu su := x_iast hx hx3 hn hi.1 hi.2 dg k
theorem g_bast {x n : Nat} {i v : Int} (hx : K x = 65) (hx3 : 300 ≤ x) (hn : N x = n) (hi : (0 ≤ i ∧ i < (n : Int)) ∧ i < 2147483648) (hv : -128 ≤ v ∧ v < 128) (dg : decode cc pc = .ok (.bastore, 1)) (k : rr_R G y cc nL ret d mc ms Q (pc + 1) ls st (K, N, rr_u2 I x i v, R) nx cu su) : rr_R G y cc nL ret d mc ms Q pc ls (vI v :: vI i :: vR (some x) :: st) (K, N, I, R) nx cu su := x_bast hx hx3 hn hi.1 hi.2 hv dg k
theorem g_aast {x n t v ci m : Nat} {i : Int} {C D : String} {T : u_T} (ht : rr_al[t]? = some (.object C)) (hc : rr_cl[ci]? = some (D, T, m)) (h0 : ci ≠ 0) (hcd : D = C ∨ Cond.castable D C ∈ lw_tbl) (hx : K x = 64 + t) (hx3 : 300 ≤ x) (hn : N x = n) (hi : (0 ≤ i ∧ i < (n : Int)) ∧ i < 2147483648) (hv : K v = ci) (dg : decode cc pc = .ok (.aastore, 1)) (k : rr_R G y cc nL ret d mc ms Q (pc + 1) ls st (K, N, I, rr_u2 R x i (some v)) nx cu su) : rr_R G y cc nL ret d mc ms Q pc ls (vR (some v) :: vI i :: vR (some x) :: st) (K, N, I, R) nx cu su := x_aast hx ht hx3 hn hi.1 hi.2 hv hc h0 hcd dg k
theorem g_aastN {x n t : Nat} {i : Int} {C : String} (ht : rr_al[t]? = some (.object C)) (hx : K x = 64 + t) (hx3 : 300 ≤ x) (hn : N x = n) (hi : (0 ≤ i ∧ i < (n : Int)) ∧ i < 2147483648) (dg : decode cc pc = .ok (.aastore, 1)) (k : rr_R G y cc nL ret d mc ms Q (pc + 1) ls st (K, N, I, rr_u2 R x i none) nx cu su) : rr_R G y cc nL ret d mc ms Q pc ls (vR none :: vI i :: vR (some x) :: st) (K, N, I, R) nx cu su := x_aastN hx ht hx3 hn hi.1 hi.2 dg k
theorem g_aastA {x n v : Nat} {i : Int} (ho : Cond.arrayOver (.array .int) ∈ lw_tbl) (hx : K x = 74) (hx3 : 300 ≤ x) (hn : N x = n) (hi : (0 ≤ i ∧ i < (n : Int)) ∧ i < 2147483648) (hv : K v = 64) (dg : decode cc pc = .ok (.aastore, 1)) (k : rr_R G y cc nL ret d mc ms Q (pc + 1) ls st (K, N, I, rr_u2 R x i (some v)) nx cu su) : rr_R G y cc nL ret d mc ms Q pc ls (vR (some v) :: vI i :: vR (some x) :: st) (K, N, I, R) nx cu su := x_aastA ho hx hx3 hn hi.1 hi.2 hv dg k
theorem g_new (ci : Nat) {idx n : Nat} {C : String} {T : u_T} (hc : rr_cl[ci]? = some (C, T, n)) (h0 : ci ≠ 0) (hq : Cond.classLink y.cls idx C ∈ lw_all) (hi : Cond.instantiable C n ∈ lw_all) (hn : Cond.initialized C ∈ lw_all) (hmc : cu + 1 ≤ mc) (hms : su + n ≤ ms) (dg : decode cc pc = .ok (.new idx, 3))
    (k : rr_R G y cc nL ret d mc ms Q (pc + 3) ls (vR (some nx) :: st) (rr_u1 K nx ci, rr_u1 N nx 0, rr_u1 I nx (fun _ => 0), rr_u1 R nx (fun _ => none)) (nx + 1) (cu + 1) (su + n)) : rr_R G y cc nL ret d mc ms Q pc ls st (K, N, I, R) nx cu su := x_new ci hc h0 hq hi hn hmc hms dg k
theorem g_newa (t n : Nat) {z : Int} {aty : ArrayType} {ty : FieldType} (hty : newarray.typeOf aty = ty) (ht : rr_al[t]? = some ty) (hf : rr_fk ty = 0) (hq : Cond.arrayClass ty ∈ lw_all) (hz : z = (n : Int)) (hn : n ≤ 100000) (hmc : cu + 1 ≤ mc) (hms : su + n ≤ ms) (dg : decode cc pc = .ok (.newarray aty, 2))
    (k : rr_R G y cc nL ret d mc ms Q (pc + 2) ls (vR (some nx) :: st) (rr_u1 K nx (64 + t), rr_u1 N nx n, rr_u1 I nx (fun _ => 0), rr_u1 R nx (fun _ => none)) (nx + 1) (cu + 1) (su + n)) : rr_R G y cc nL ret d mc ms Q pc ls (vI z :: st) (K, N, I, R) nx cu su := x_newa t n hty ht hf hq hz hn hmc hms dg k
theorem g_anew (t n : Nat) {idx : Nat} {z : Int} {C : String} (ht : rr_al[t]? = some (.object C)) (hq : Cond.classLink y.cls idx C ∈ lw_all) (ho : Cond.arrayOver (.object C) ∈ lw_tbl) (hz : z = (n : Int)) (hn : n ≤ 100000) (hmc : cu + 1 ≤ mc) (hms : su + n ≤ ms) (dg : decode cc pc = .ok (.anewarray idx, 3))
    (k : rr_R G y cc nL ret d mc ms Q (pc + 3) ls (vR (some nx) :: st) (rr_u1 K nx (64 + t), rr_u1 N nx n, rr_u1 I nx (fun _ => 0), rr_u1 R nx (fun _ => none)) (nx + 1) (cu + 1) (su + n)) : rr_R G y cc nL ret d mc ms Q pc ls (vI z :: st) (K, N, I, R) nx cu su := x_anew t n ht hq ho hz hn hmc hms dg k
theorem g_anewA (n : Nat) {idx : Nat} {z : Int} (hq : Cond.classLink y.cls idx "[I" ∈ lw_all) (ho : Cond.arrayOver (.array .int) ∈ lw_tbl) (hz : z = (n : Int)) (hn : n ≤ 100000) (hmc : cu + 1 ≤ mc) (hms : su + n ≤ ms) (dg : decode cc pc = .ok (.anewarray idx, 3))
    (k : rr_R G y cc nL ret d mc ms Q (pc + 3) ls (vR (some nx) :: st) (rr_u1 K nx 74, rr_u1 N nx n, rr_u1 I nx (fun _ => 0), rr_u1 R nx (fun _ => none)) (nx + 1) (cu + 1) (su + n)) : rr_R G y cc nL ret d mc ms Q pc ls (vI z :: st) (K, N, I, R) nx cu su := x_anewA n hq ho hz hn hmc hms dg k
theorem g_cast {idx x ci n : Nat} {C nm : String} {T : u_T} (hc : rr_cl[ci]? = some (C, T, n)) (h0 : ci ≠ 0) (hq : Cond.classLink y.cls idx nm ∈ lw_all) (hcd : C = nm ∨ Cond.castable C nm ∈ lw_tbl) (hx : K x = ci) (dg : decode cc pc = .ok (.checkcast idx, 3)) (k : rr_R G y cc nL ret d mc ms Q (pc + 3) ls (vR (some x) :: st) (K, N, I, R) nx cu su) : rr_R G y cc nL ret d mc ms Q pc ls (vR (some x) :: st) (K, N, I, R) nx cu su := x_cast hc h0 hx hq hcd dg k
/-! calls -/
theorem rr_after5 {p : Program} {e : Env} {s : State} {m : MethodId} {args : Array Value} {below : List Frame} {meth : Method} {c : Code} {H : Heap} {locs : List Loc} {la : Array Slot} {mc' ms' : Nat} {st0 : List Value} {rest : List rr_V} {Post' : Option rr_V → rr_H → Nat → Prop} {a : Array Value}
    (hr : va_Run5 p G.1.1 e (rr_rm d mc ms) s m args below meth c H locs cu su mc' ms' (F0 m pc la st0) (rest.map (rr_g G)) (rr_Q G Post' a) (rr_A G)) (hC : rr_C G y cc nL ret p s m args meth c) (hS : va_S (rr_A G) s.heap H locs) (hL : rr_L G ls nL la)
    (kk : ∀ (r : Option rr_V) (h' : rr_H) (nx' : Nat), Post' r h' nx' → rr_R G y cc nL ret d mc ms Q (pc + 5) ls (r.toList ++ rest) h' nx' (cu + mc') (su + ms')) :
    W p G.1.1 e (rr_rm d mc ms) s m args below meth c H locs cu su (Q below args s) (F0 m pc la st0) := by
  intro T hT X
  obtain ⟨v, st₀, t, T', L, h0, X', hL', e1, e2, ⟨⟨r, h', nx', hv, hp, hrel⟩, hz, hk⟩, st⟩ := hr T hT X
  cases hv
  rw [h0] at hz hk
  have kk1 := kk r h' nx' hp p e s m args below meth c T'.heap (locs ++ L) la hC (by rw [e1]; exact hrel)
    ⟨Nat.le_trans hS.1 (by rw [e1]; exact hz), fun q h1 h2 => by rw [e1, hk q (Nat.lt_of_lt_of_le h1 hS.1) h2]; exact hS.2.1 q h1 h2, fun q hq => by
      rcases List.mem_append.mp hq with h | h
      · exact hS.2.2 q h
      · exact hL' q h⟩ hL
  obtain ⟨t2, a1, b1⟩ := kk1 T' rfl X'
  refine ⟨t2, st t2 ?_, b1⟩
  have : (r.map (rr_g G)).toList ++ rest.map (rr_g G) = (r.toList ++ rest).map (rr_g G) := by cases r <;> simp
  rw [this]
  exact a1
theorem rr_pre {p : Program} {s : State} {m : MethodId} {args : Array Value} {meth : Method} {c : Code} {H : Heap} {locs : List Loc} {As : List rr_V} {x ci n : Nat} {C : String} {T : u_T} (hC : rr_C G y cc nL ret p s m args meth c) (hr : rr_rel G h nx H) (hS : va_S (rr_A G) s.heap H locs) (hc : rr_cl[ci]? = some (C, T, n)) (h0 : ci ≠ 0) (hx : h.1 x = ci) : PreV s H C (rr_ad G x) (va_Pc ((vR (some x) :: As).map (rr_g G)) (fun U => rr_w G h nx U)) (As.map (rr_g G)) := by
  exact ⟨rr_w.blind, rr_recv hC hr hc h0 hx, fun U hU hW => ⟨rfl, hC.w hr hS U hU hW⟩⟩
/-- a call through an interface -/
theorem x_callF {As rest : List rr_V} {x ci idx cnt nL' d' mc' ms' n m0 : Nat} {C : String} {T : u_T} {xm y' : MethodName} {cc' : ByteArray} {ret' : Option FieldType} {Post' : Option rr_V → rr_H → Nat → Prop}
    (hst : st = As.reverse ++ vR (some x) :: rest) (hM : rr_Cn G y' cc' nL' ret' d' mc' ms' (vR (some x) :: As) h nx Post') (hF : (C, xm, y') ∈ rr_fl) (hq : Cond.methodLink y.cls idx xm ∈ lw_all) (hsl : Cond.selects C xm y' ∈ lw_all) (hin : Cond.instanceMethod y' ∈ lw_all) (hini : Cond.initialized y'.cls ∈ lw_all) (hcd : Cond.code y' cc' nL' ret' ∈ lw_all)
    (hds : xm.cls ≠ "java/lang/invoke/MethodHandle" ∧ xm.cls ≠ "java/lang/invoke/VarHandle" ∧ (parseMethodDescriptor xm.desc).map (fun d => d.parameters.length) = some n) (hc : rr_cl[ci]? = some (C, T, m0)) (h0 : ci ≠ 0) (hx : h.1 x = ci) (hn : As.length = n)
    (hd : d' + 1 ≤ d) (hnl : nL' ≤ 45) (hw : rr_wd rest ≤ 8) (hmc : cu + mc' ≤ mc) (hms : su + ms' ≤ ms) (dg : decode cc pc = .ok (.invokeinterface idx cnt, 5))
    (kk : ∀ (r : Option rr_V) (h' : rr_H) (nx' : Nat), Post' r h' nx' → rr_R G y cc nL ret d mc ms Q (pc + 5) ls (r.toList ++ rest) h' nx' (cu + mc') (su + ms')) : rr_R G y cc nL ret d mc ms Q pc ls st h nx cu su := by
  intro p e s m args below meth c H locs la hC hr hS hL
  have hts := hC.2.2.2.2.2.1
  have hvm := hC.2.2.2.2.2.2.2.2.1
  have hgood : GoodIn lw_all (va_wsF y.cls idx C xm y' (ws_ y' cc' nL' ret')) := lw_app (by
    intro w hw
    simp only [List.mem_cons, List.not_mem_nil, or_false] at hw
    rcases hw with rfl | rfl | rfl | rfl
    · exact hq
    · exact hsl
    · exact hin
    · exact hini) (lw_meth hcd)
  refine rr_after5 (rest := rest) (va_runF (As := As.map (rr_g G)) (rest := rest.map (rr_g G)) (b := rr_ad G x) (hvm.1.1 ci _ hc).2 ⟨hC.1, hC.2.1, hC.2.2.2.1, hC.2.2.2.2.1, hts⟩ hM (va_cwF n hts hgood rfl rfl rfl (hvm.2.2.2.1 _ hF) hds (rr_rooms hd hnl)) (rr_pre hC hr hS hc h0 hx) rfl (by rw [List.length_map]; exact hn) hL.1.1 ?_ (lv_room (by rw [rr_wd_eq]; exact hw)) dg ⟨hmc, hms⟩) hC hS hL kk
  show st.map (rr_g G) = _
  rw [hst]
  simp [rr_g, va_rf]
/-- a method that the receiver's class inherits (xm: as it is named, y': as it is declared) -/
theorem x_callU {As rest : List rr_V} {x ci idx nL' d' mc' ms' n m0 : Nat} {C : String} {T : u_T} {xm y' : MethodName} {cc' : ByteArray} {ret' : Option FieldType} {Post' : Option rr_V → rr_H → Nat → Prop}
    (hst : st = As.reverse ++ vR (some x) :: rest) (hM : rr_Cn G y' cc' nL' ret' d' mc' ms' (vR (some x) :: As) h nx Post') (ow : String) {b0 : ByteArray} {l0 : Nat} {r0 : Option FieldType} (hdi : Cond.instanceMethod ⟨ow, xm.name, xm.desc⟩ ∈ lw_all) (hdc : Cond.code ⟨ow, xm.name, xm.desc⟩ b0 l0 r0 ∈ lw_all) (hq : Cond.methodLink y.cls idx xm ∈ lw_all) (hsm : Cond.sameMethod xm.cls ow xm.name xm.desc ∈ lw_all) (hsl : Cond.selects C xm y' ∈ lw_all ∨ Cond.selects C xm y' ∈ rr_n2) (hin : Cond.instanceMethod y' ∈ lw_all) (hini : Cond.initialized y'.cls ∈ lw_all) (hcd : Cond.code y' cc' nL' ret' ∈ lw_all)
    (hds : ow ≠ "java/lang/invoke/MethodHandle" ∧ ow ≠ "java/lang/invoke/VarHandle" ∧ (parseMethodDescriptor xm.desc).map (fun d => d.parameters.length) = some n) (hc : rr_cl[ci]? = some (C, T, m0)) (h0 : ci ≠ 0) (hx : h.1 x = ci) (hn : As.length = n)
    (hd : d' + 1 ≤ d) (hnl : nL' ≤ 45) (hw : rr_wd rest ≤ 8) (hmc : cu + mc' ≤ mc) (hms : su + ms' ≤ ms) (dg : decode cc pc = .ok (.invokevirtual idx, 3))
    (kk : ∀ (r : Option rr_V) (h' : rr_H) (nx' : Nat), Post' r h' nx' → rr_R G y cc nL ret d mc ms Q (pc + 3) ls (r.toList ++ rest) h' nx' (cu + mc') (su + ms')) : rr_R G y cc nL ret d mc ms Q pc ls st h nx cu su := by
  intro p e s m args below meth c H locs la hC hr hS hL
  have hts := hC.2.2.2.2.2.1
  have hvm := hC.2.2.2.2.2.2.2.2.1
  have hG : GoodIn lw_all (ws_ y' cc' nL' ret') := lw_meth hcd
  have hsl2 : (Cond.selects C xm y').before args s = true := by
    rcases hsl with h | h
    · exact hts _ h
    · exact va_Nw.use rfl (hvm.2.2.2.2.2.2.1 _ h)
  have hroom := rr_rooms (mc := mc) (ms := ms) (mc' := mc') (ms' := ms') hd hnl
  have hlen : ∀ sig, parseMethodDescriptor xm.desc = some sig → n = sig.parameters.length := by
    intro sig h
    have h2 := hds.2.2
    rw [h] at h2
    exact (Option.some.inj h2).symm
  have hdecl : va_Decl s ⟨ow, xm.name, xm.desc⟩ := va_Decl.of (hts _ hdi) (hts _ hdc)
  have cw : va_CU (rr_rm d mc ms) s args y.cls C ow idx xm y' cc' nL' ret' (ws_ y' cc' nL' ret') (rr_rm d' mc' ms') mc' ms' n :=
    ⟨⟨rfl, rfl, hroom.1, hroom.2, pay_in hts hG, List.mem_cons_self⟩, hts _ hcd, hts _ hini, ⟨hds.1, hds.2.1⟩, hlen, hts _ hq, hts _ hsm, hdecl, hsl2, hts _ hin⟩
  refine rr_after (rest := rest) (va_runU (As := As.map (rr_g G)) (rest := rest.map (rr_g G)) (b := rr_ad G x) ⟨hC.1, hC.2.1, hC.2.2.2.1, hC.2.2.2.2.1, hts⟩ hM cw (rr_pre hC hr hS hc h0 hx) rfl (by rw [List.length_map]; exact hn) hL.1.1 ?_ (lv_room (by rw [rr_wd_eq]; exact hw)) dg ⟨hmc, hms⟩) hC hS hL kk
  show st.map (rr_g G) = _
  rw [hst]
  simp [rr_g, va_rf]
/-- super.method() -/
theorem x_callSU {As rest : List rr_V} {x ci idx nL' d' mc' ms' n m0 : Nat} {C : String} {T : u_T} {y' : MethodName} {cc' : ByteArray} {ret' : Option FieldType} {Post' : Option rr_V → rr_H → Nat → Prop}
    (hst : st = As.reverse ++ vR (some x) :: rest) (hM : rr_Cn G y' cc' nL' ret' d' mc' ms' (vR (some x) :: As) h nx Post') (hq : Cond.methodLink y.cls idx y' ∈ lw_all) (hsm : Cond.sameMethod y'.cls y'.cls y'.name y'.desc ∈ lw_all) (hsp : Cond.superclass y.cls y'.cls ∈ lw_all) (hin : Cond.instanceMethod y' ∈ lw_all) (hini : Cond.initialized y'.cls ∈ lw_all) (hcd : Cond.code y' cc' nL' ret' ∈ lw_all)
    (hds : y'.name ≠ "<init>" ∧ (parseMethodDescriptor y'.desc).map (fun d => d.parameters.length) = some n) (hc : rr_cl[ci]? = some (C, T, m0)) (h0 : ci ≠ 0) (hx : h.1 x = ci) (hn : As.length = n)
    (hd : d' + 1 ≤ d) (hnl : nL' ≤ 45) (hw : rr_wd rest ≤ 8) (hmc : cu + mc' ≤ mc) (hms : su + ms' ≤ ms) (dg : decode cc pc = .ok (.invokespecial idx, 3))
    (kk : ∀ (r : Option rr_V) (h' : rr_H) (nx' : Nat), Post' r h' nx' → rr_R G y cc nL ret d mc ms Q (pc + 3) ls (r.toList ++ rest) h' nx' (cu + mc') (su + ms')) : rr_R G y cc nL ret d mc ms Q pc ls st h nx cu su := by
  intro p e s m args below meth c H locs la hC hr hS hL
  have hts := hC.2.2.2.2.2.1
  have hvm := hC.2.2.2.2.2.2.2.2.1
  have hgood : GoodIn lw_all (va_wsSU y.cls idx y' (ws_ y' cc' nL' ret')) := lw_app (by
    intro w hw
    simp only [List.mem_cons, List.not_mem_nil, or_false] at hw
    rcases hw with rfl | rfl | rfl | rfl | rfl
    · exact hq
    · exact hsm
    · exact hsp
    · exact hin
    · exact hini) (lw_meth hcd)
  refine rr_after (rest := rest) (va_runSU (As := As.map (rr_g G)) (rest := rest.map (rr_g G)) (b := rr_ad G x) (hvm.1.1 ci _ hc).2 ⟨hC.1, hC.2.1, hC.2.2.2.1, hC.2.2.2.2.1, hts⟩ hM (va_cwSU n hts hgood rfl rfl rfl hds (rr_rooms hd hnl)) (rr_pre hC hr hS hc h0 hx) rfl (by rw [List.length_map]; exact hn) hL.1.1 ?_ (lv_room (by rw [rr_wd_eq]; exact hw)) dg ⟨hmc, hms⟩) hC hS hL kk
  show st.map (rr_g G) = _
  rw [hst]
  simp [rr_g, va_rf]
/-- nest mates: a constructor, a static method -/
theorem x_calliN {As rest : List rr_V} {x idx nL' d' mc' ms' n : Nat} {host : String} {y' : MethodName} {cc' : ByteArray} {Post' : Option rr_V → rr_H → Nat → Prop}
    (hst : st = As.reverse ++ vR (some x) :: rest) (hM : rr_Cn G y' cc' nL' none d' mc' ms' (vR (some x) :: As) h nx Post') (hf : rr_mi y' cc' nL' n) (hq : Cond.methodLinkNest y.cls idx y' host ∈ lw_tbl) (hn : As.length = n)
    (hd : d' + 1 ≤ d) (hnl : nL' ≤ 45) (hw : rr_wd rest ≤ 8) (hmc : cu + mc' ≤ mc) (hms : su + ms' ≤ ms) (dg : decode cc pc = .ok (.invokespecial idx, 3))
    (kk : ∀ (r : Option rr_V) (h' : rr_H) (nx' : Nat), Post' r h' nx' → rr_R G y cc nL ret d mc ms Q (pc + 3) ls (r.toList ++ rest) h' nx' (cu + mc') (su + ms')) : rr_R G y cc nL ret d mc ms Q pc ls st h nx cu su := by
  intro p e s m args below meth c H locs la hC hr hS hL
  obtain ⟨f1, f3, f4, f6, f5⟩ := hf
  have hts := hC.2.2.2.2.2.1
  refine rr_after (rest := rest) (va_runIN (As := As.map (rr_g G)) (rest := rest.map (rr_g G)) (b := rr_ad G x) ⟨hC.1, hC.2.1, hC.2.2.2.1, hC.2.2.2.2.1, hts⟩ hM ⟨va_cnB n hts (lw_meth f4) rfl rfl rfl (hC.2.2.2.2.2.2.2.2.1.2.1 _ (rr_x hq rfl)) (hts _ f3) f5 (rr_rooms hd hnl), f6, hts _ f1⟩ ⟨rr_w.blind, fun U hU hW => ⟨rfl, hC.w hr hS U hU hW⟩⟩ rfl (by rw [List.length_map]; exact hn) hL.1.1 ?_ (lv_room (by rw [rr_wd_eq]; exact hw)) dg ⟨hmc, hms⟩) hC hS hL kk
  show st.map (rr_g G) = _
  rw [hst]
  simp [rr_g, va_rf]
theorem x_callsN {As rest : List rr_V} {idx nL' d' mc' ms' n : Nat} {host : String} {y' : MethodName} {cc' : ByteArray} {ret' : Option FieldType} {Post' : Option rr_V → rr_H → Nat → Prop}
    (hst : st = As.reverse ++ rest) (hM : rr_Cn G y' cc' nL' ret' d' mc' ms' As h nx Post') (hf : rr_ms y' cc' nL' ret' n) (hq : Cond.methodLinkNest y.cls idx y' host ∈ lw_tbl) (hn : As.length = n)
    (hd : d' + 1 ≤ d) (hnl : nL' ≤ 45) (hw : rr_wd rest ≤ 8) (hmc : cu + mc' ≤ mc) (hms : su + ms' ≤ ms) (dg : decode cc pc = .ok (.invokestatic idx, 3))
    (kk : ∀ (r : Option rr_V) (h' : rr_H) (nx' : Nat), Post' r h' nx' → rr_R G y cc nL ret d mc ms Q (pc + 3) ls (r.toList ++ rest) h' nx' (cu + mc') (su + ms')) : rr_R G y cc nL ret d mc ms Q pc ls st h nx cu su := by
  intro p e s m args below meth c H locs la hC hr hS hL
  obtain ⟨f1, f3, f4, f5⟩ := hf
  have hts := hC.2.2.2.2.2.1
  refine rr_after (rest := rest) (va_runSN (As := As.map (rr_g G)) (rest := rest.map (rr_g G)) ⟨hC.1, hC.2.1, hC.2.2.2.1, hC.2.2.2.2.1, hts⟩ hM ⟨va_cnB n hts (lw_meth f4) rfl rfl rfl (hC.2.2.2.2.2.2.2.2.1.2.1 _ (rr_x hq rfl)) (hts _ f3) f5 (rr_rooms hd hnl), hts _ f1, trivial⟩ ⟨rr_w.blind, fun U hU hW => ⟨rfl, hC.w hr hS U hU hW⟩⟩ rfl (by rw [List.length_map]; exact hn) hL.1.1 ?_ (lv_room (by rw [rr_wd_eq]; exact hw)) dg ⟨hmc, hms⟩) hC hS hL kk
  show st.map (rr_g G) = _
  rw [hst]
  simp
theorem rr_mono {as : List rr_V} {Post' : Option rr_V → rr_H → Nat → Prop} (hM : rr_Cn G y cc nL ret d mc ms as h nx Post) (hp : ∀ r h2 n2, Post r h2 n2 → Post' r h2 n2) : rr_Cn G y cc nL ret d mc ms as h nx Post' := by
  intro p e ha hf hc s m args below h1 h2 h3 h4
  obtain ⟨n, o, g1, g2, g3, g4, g5⟩ := hM p e ha hf hc s m args below h1 h2 h3 h4
  refine ⟨n, o, g1, g2, g3, ?_, g5⟩
  obtain ⟨⟨r, h', nx', q1, q2, q3⟩, q4⟩ := g4
  exact ⟨⟨r, h', nx', q1, hp _ _ _ q2, q3⟩, q4⟩
end RULES
