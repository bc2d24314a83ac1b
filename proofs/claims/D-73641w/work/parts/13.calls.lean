/-! RULES: entry, making, calls -/
set_option maxRecDepth 100000
theorem rr_lam.warm {x : MethodName} {pc index : Nat} {σ : Lambda.Shape} {c : ClassId} {s t : State} (hW : s.WarmedH t.vm) (h : rr_lam x pc index σ c s) : rr_lam x pc index σ c t := by
  unfold rr_lam at h ⊢
  obtain ⟨m, kc, cf, i0, p0, l, hm, hk, hcf, hsh, hin, hfind, hmade, hcall, hl⟩ := State.lambdaAt?_spec h
  have hcall' : t.lambdaCallable σ c = true := by
    have hA := hW.alike
    simp only [State.lambdaCallable, hA.findClass, hA.assignable, hA.superclasses, hA.declaredIn] at hcall ⊢
    exact hcall
  obtain ⟨kc', hk', he⟩ := hW.alike.2.2 _ _ hk
  have hm' : t.methodNamed? x = some m := by
    have := State.methodNamed?_setVm (s := s) hW.alike x
    rw [hm] at this
    exact this
  have hcf' : kc'.cf = some cf := by rw [he]; exact hcf
  have hin' : (m.idx, pc, index, σ) ∈ Lambda.sitesOf kc' := by rw [he]; exact hin
  have hfind' : (kc'.callSites.find? fun y => y.1 == m.idx && y.2.1 == pc) = some (i0, p0, l) := by rw [he]; exact hfind
  have hmade' := Lambda.isMade_warmer hW hmade
  obtain ⟨m2, k2, hm2, hk2, hjdk, howes⟩ := State.lambdaAt?_road h
  cases hm.symm.trans hm2
  cases hk.symm.trans hk2
  have hjdk' : jdkName kc'.name = false := by rw [he]; exact hjdk
  have howes' : (t.vm.findClass σ.iface).bind (Lambda.owesInit t.vm) = none := by
    rw [hW.alike.findClass]
    cases hfi : s.vm.findClass σ.iface with
    | none => rfl
    | some i => rw [hfi] at howes; simpa [Lambda.owesInit_alike hW.alike] using howes
  have hany : ((Lambda.sitesOf kc').any fun y => decide (y = (m.idx, pc, index, σ))) = true := by simpa using hin'
  rcases hl with ⟨a, cell, -, hn, -⟩ | ⟨rfl, -, hcap⟩
  · cases hn
  · simp [State.lambdaAt?, guard, hjdk', howes', hm', hk', hcf', hsh, hany, hfind', hcap, hmade', hcall']
theorem rr_warmA {t : FieldType} {u U : State} (hW : u.WarmedH U.vm) (h : va_Nw (.arrayOver (.array t)) u) : va_Nw (.arrayOver (.array t)) U := by
  have hvm := hW.alike
  obtain ⟨comp, c, k, h1, h2, h3, h4, h5⟩ := arrayOverA_spec h
  obtain ⟨k', hk', he⟩ := hvm.2.2 _ _ h3
  have hi : (U.vm.classes.findIdx? fun (x : Class) => match x.kind with | .array component _ => component == comp | _ => false) = some c := by
    refine (va_idx_bare U.vm comp).symm.trans ?_
    first | rw [hvm.bare_eq] | rw [← hvm.bare_eq]
    exact (va_idx_bare u.vm comp).trans h2
  have hkind : k'.kind = .array comp (.array t) := by rw [he]; exact h4
  have f1 : U.vm.findClass (FieldType.array t).toString = some comp := by rw [hvm.findClass]; exact h1
  have f2 : U.vm.findClass ("[" ++ (FieldType.array t).toString) = some c := by rw [hvm.findClass]; exact h5
  unfold va_Nw Cond.before Cond.holds
  simp only [Cond.value]
  rw [f1, Option.bind_some]
  refine (congrArg (fun o : Option Nat => (o.bind (fun c => (U.vm.classes[c]?).map fun (k : Class) => match k.kind with | .array _ ty => decide (ty = FieldType.array t) && decide (U.vm.findClass ("[" ++ (FieldType.array t).toString) = some c) | _ => false) == some true)) hi).trans ?_
  simp [hk', hkind, f2]
theorem rr_warmP {x : MethodName} {s U : State} (hW : s.WarmedH U.vm) (hZ : va_Nw (.publicMethod x) s) : va_Nw (.publicMethod x) U := va_tabs rfl (rfl : (s.setVm U.vm).vm = U.vm) (by rw [Cond.publicMethod_setVm hW.alike]; exact hZ)
theorem rr_warmU {a b c : String} {s U : State} (hW : s.WarmedH U.vm) (hZ : va_Nw (.unhidden a b c) s) : va_Nw (.unhidden a b c) U := va_tabs rfl (rfl : (s.setVm U.vm).vm = U.vm) (by rw [Cond.unhidden_setVm hW.alike]; exact hZ)
theorem rr_warmL {own : String} {i : Nat} {x : MethodName} {s U : State} (hW : s.WarmedH U.vm) (hZ : va_Nw (.methodLink own i x) s) : va_Nw (.methodLink own i x) U := word_at hW (good_of_word rfl) hZ
theorem rr_warmS {C : String} {x z : MethodName} {s U : State} (hW : s.WarmedH U.vm) (hZ : va_Nw (.selects C x z) s) : va_Nw (.selects C x z) U := word_at hW (good_of_word rfl) hZ
theorem rr_warmI {a b n d : String} {s U : State} (hW : s.WarmedH U.vm) (hZ : va_Nw (.interfaceMethod a b n d) s) : va_Nw (.interfaceMethod a b n d) U := va_tabs rfl (rfl : (s.setVm U.vm).vm = U.vm) (by
  have e : (Cond.interfaceMethod a b n d).before #[] (s.setVm U.vm) = (Cond.interfaceMethod a b n d).before #[] s := by
    simp only [Cond.before, Cond.holds, Cond.value, State.vm_setVm, hW.alike.findClass, State.methodFound?_setVm hW.alike, State.methodNamed?_setVm hW.alike, arm_isInterface_setVm hW.alike]
  rw [e]; exact hZ)
theorem rr_vm.warm {G : rr_G} {s U : State} (hW : s.WarmedH U.vm) (h : rr_vm G s) : rr_vm G U := by
  obtain ⟨g1, g2, g3, g4, g5, g6, g7, g8⟩ := h
  refine ⟨va_K.moved hW.alike g1, fun w hw => ?_, fun q hq => vk_R.warm hW (g3 q hq), fun q hq => va_Fw.moved ?_ hW.alike (g4 q hq), fun i q hq => rr_lam.warm hW (g5 i q hq), g6, fun w hw => ?_, va_Mi.moved hW.alike g8⟩
  · have h1 := g2 w hw
    have h2 := (List.mem_filter.mp hw).2
    cases w <;> first | (simp [rr_xk] at h2; done) | exact va_Nw.warmF hW h1 | exact va_Nw.warmM hW h1 | exact va_Nw.warmD hW h1 | exact va_Nw.warmC hW h1 | exact rr_warmP hW h1 | exact rr_warmU hW h1 | (rename_i ty; cases ty <;> first | (simp [rr_xk] at h2; done) | exact va_AO.moved hW.alike h1 | exact rr_warmA hW h1)
  · simp only [rr_fl, List.mem_cons, List.not_mem_nil, or_false] at hq
    rcases hq with rfl | rfl | rfl | rfl | rfl | rfl | rfl <;> exact ⟨by decide, by decide⟩
  · have h1 := g7 w hw
    simp only [rr_n2, List.mem_cons, List.not_mem_nil, or_false] at hw
    rcases hw with rfl | rfl | rfl | rfl | rfl | rfl
    · exact rr_warmL hW h1
    · exact rr_warmI hW h1
    · exact rr_warmL hW h1
    · exact rr_warmI hW h1
    · exact rr_warmS hW h1
    · exact rr_warmS hW h1
theorem rr_vm.same {G : rr_G} {s U : State} (hv : s.vm = U.vm) (h : rr_vm G s) : rr_vm G U := by
  exact rr_vm.warm (s := s) (by rw [← hv]; exact State.WarmedH.refl s) h
theorem rr_st.moved {G : rr_G} {s U : State} {H : Heap} (hv : s.vm.Alike U.vm) (h : rr_st G s H) : rr_st G U H := ⟨fun q hq => va_Z.moved hv (h.1 q hq), h.2.moved hv⟩
theorem rr_st.kept {G : rr_G} {s : State} {H H' : Heap} {locs : List Loc} (h : rr_st G s H) (hS : va_S (rr_A G) H H' locs) : rr_st G s H' := ⟨fun q hq => va_Z.kept (h.1 q hq) hS.2.1, h.2.kept hS.2.1⟩
theorem rr_w.blind {G : rr_G} {h : rr_H} {nx : Nat} {as : List Value} : FrameBlind (va_Pc as (fun U => rr_w G h nx U)) := by
  intro a U g mk q
  obtain ⟨q0, q1, q2, q3⟩ := q
  exact ⟨q0, q1, rr_vm.same (s := U) rfl q2, rr_st.moved (s := U) (Vm.Alike.refl U.vm) q3⟩
section RULES
variable {G : rr_G} {y : MethodName} {cc : ByteArray} {nL : Nat} {ret : Option FieldType} {d mc ms : Nat} {Post : Option rr_V → rr_H → Nat → Prop} {Q : List Frame → Array Value → State → State → Prop} {pc : Nat} {ls : List (Option rr_V)} {st : List rr_V} {h : rr_H} {nx cu su : Nat}
theorem rr_C.w {p : Program} {s : State} {m : MethodId} {args : Array Value} {meth : Method} {c : Code} {H : Heap} {locs : List Loc} (hC : rr_C G y cc nL ret p s m args meth c) (hr : rr_rel G h nx H) (hS : va_S (rr_A G) s.heap H locs) : ∀ U : State, U.heap = H → s.WarmedH U.vm → rr_w G h nx U := by
  intro U hU hW
  refine ⟨by rw [hU]; exact hr, hC.2.2.2.2.2.2.2.2.1.warm hW, ?_⟩
  rw [hU]
  exact rr_st.moved hW.alike (hC.2.2.2.2.2.2.2.2.2.1.kept hS)
theorem rr_entry {as : List rr_V} (hy : plainName y.cls = true) (ha : (as.map some).all rr_nj = true) (hn : as.length ≤ nL) (k : rr_R G y cc nL ret d mc ms (rr_N G mc ms Post) 0 (as.map some ++ List.replicate (nL - as.length) none) [] h nx 0 0) : rr_Cn G y cc nL ret d mc ms as h nx Post := by
  refine Met.ofW (cc := cc) (maxL := nL) (ret := ret) hy rfl ?_
  intro p e s m args below meth c s₁ B hml hv
  obtain ⟨rfl, hw⟩ := hv
  have hts := atoms_spec (ws := ws_ y cc nL ret) B.pre
  have hts : ∀ w ∈ lw_all, w.before _ s = true := fun w h => hts w (List.mem_cons_of_mem _ h)
  have hlen : (lg_sl (as.map (rr_g G))).length = as.length := by rw [rr_sl_eq G as ha]; simp
  have hent := lv_entry (as.map (rr_g G)) (n := nL) (by rw [hlen]; exact hn)
  rw [rr_args G as ha 0 (nL - as.length)] at hent
  rw [lg_entry_eq]
  refine k p e s m _ below meth c s.heap [] _ ⟨B.exec, B.bytes, B.returns, hml, findClass_of_methodNamed B.named, hts, B.notSynchronized, (name_of_methodNamed B.named B.method).1, hw.2.1, hw.2.2, ?_⟩ hw.1 va_S.rf ⟨hent, by simp; omega, ?_⟩
  · rw [hw.1.2.1]; omega
  · rw [List.all_append, ha]
    simp [rr_nj]
/-- the words of a method that is called -/
def rr_mv (C : String) (y : MethodName) (cc : ByteArray) (nL : Nat) (ret : Option FieldType) (n : Nat) : Prop := Cond.instanceMethod y ∈ lw_all ∧ Cond.selects C y y ∈ lw_all ∧ Cond.initialized C ∈ lw_all ∧ Cond.code y cc nL ret ∈ lw_all ∧ (y.cls = C ∧ y.cls ≠ "java/lang/invoke/MethodHandle" ∧ y.cls ≠ "java/lang/invoke/VarHandle" ∧ (parseMethodDescriptor y.desc).map (fun d => d.parameters.length) = some n)
def rr_ms (y : MethodName) (cc : ByteArray) (nL : Nat) (ret : Option FieldType) (n : Nat) : Prop := Cond.static y ∈ lw_all ∧ Cond.initialized y.cls ∈ lw_all ∧ Cond.code y cc nL ret ∈ lw_all ∧ (y.cls ≠ "java/lang/invoke/MethodHandle" ∧ y.cls ≠ "java/lang/invoke/VarHandle" ∧ (parseMethodDescriptor y.desc).map (fun d => d.parameters.length) = some n)
def rr_mi (y : MethodName) (cc : ByteArray) (nL : Nat) (n : Nat) : Prop := Cond.instanceMethod y ∈ lw_all ∧ Cond.initialized y.cls ∈ lw_all ∧ Cond.code y cc nL none ∈ lw_all ∧ y.name = "<init>" ∧ (y.cls ≠ "java/lang/invoke/MethodHandle" ∧ y.cls ≠ "java/lang/invoke/VarHandle" ∧ (parseMethodDescriptor y.desc).map (fun d => d.parameters.length) = some n)
def rr_wd : List rr_V → Nat
  | [] => 0
  | .inr (.inl _) :: l => 2 + rr_wd l
  | _ :: l => 1 + rr_wd l
theorem rr_wd_eq (G : rr_G) (l : List rr_V) : ((l.map (rr_g G)).map fun v => v.category).sum = rr_wd l := by
  induction l with
  | nil => rfl
  | cons a l ih =>
    rcases a with z | z | r
    · simp only [List.map_cons, List.sum_cons, ih]; rfl
    · simp only [List.map_cons, List.sum_cons, ih]; rfl
    · simp only [List.map_cons, List.sum_cons, ih]
      cases r <;> rfl
theorem rr_rooms {d d' nL' mc ms mc' ms' : Nat} (hd : d' + 1 ≤ d) (hn : nL' ≤ 45) : (rr_rm d' mc' ms').frames + 1 ≤ (rr_rm d mc ms).frames ∧ 8 + (nL' + 11) + (rr_rm d' mc' ms').locals ≤ (rr_rm d mc ms).locals := by
  unfold rr_rm
  refine ⟨?_, by dsimp only; omega⟩
  dsimp only
  split <;> split <;> omega
theorem rr_after {p : Program} {e : Env} {s : State} {m : MethodId} {args : Array Value} {below : List Frame} {meth : Method} {c : Code} {H : Heap} {locs : List Loc} {la : Array Slot} {mc' ms' : Nat} {st0 : List Value} {rest : List rr_V} {Post' : Option rr_V → rr_H → Nat → Prop} {a : Array Value}
    (hr : va_Run p G.1.1 e (rr_rm d mc ms) s m args below meth c H locs cu su mc' ms' (F0 m pc la st0) (rest.map (rr_g G)) (rr_Q G Post' a) (rr_A G)) (hC : rr_C G y cc nL ret p s m args meth c) (hS : va_S (rr_A G) s.heap H locs) (hL : rr_L G ls nL la)
    (kk : ∀ (r : Option rr_V) (h' : rr_H) (nx' : Nat), Post' r h' nx' → rr_R G y cc nL ret d mc ms Q (pc + 3) ls (r.toList ++ rest) h' nx' (cu + mc') (su + ms')) :
    W p G.1.1 e (rr_rm d mc ms) s m args below meth c H locs cu su (Q below args s) (F0 m pc la st0) := by
  intro T hT X
  obtain ⟨v, st₀, t, T', L, h0, X', hL', e1, e2, ⟨⟨r, h', nx', hv, hp, hrel⟩, hz, hk⟩, st⟩ := hr T hT X
  cases hv
  rw [h0] at hz hk
  have kk1 := kk r h' nx' hp p e s m args below meth c T'.heap (locs ++ L) la hC (by rw [e1]; exact hrel)
    ⟨Nat.le_trans hS.1 (by rw [e1]; exact hz), fun q h1 h2 => by rw [e1, hk q (Nat.lt_of_lt_of_le h1 hS.1) h2]; exact hS.2.1 q h1 h2, fun q hq => by
      rcases List.mem_append.mp hq with h | h
      · exact hS.2.2 q h
      · exact hL' q h⟩ hL
  obtain ⟨t2, a1, b1⟩ := kk1 T' rfl X'
  refine ⟨t2, st t2 ?_, b1⟩
  have : (r.map (rr_g G)).toList ++ rest.map (rr_g G) = (r.toList ++ rest).map (rr_g G) := by cases r <;> simp
  rw [this]
  exact a1
theorem x_callv {As rest : List rr_V} {x ci idx nL' d' mc' ms' n N : Nat} {C : String} {T : u_T} {y' : MethodName} {cc' : ByteArray} {ret' : Option FieldType} {Post' : Option rr_V → rr_H → Nat → Prop}
    (hst : st = As.reverse ++ vR (some x) :: rest) (hM : rr_Cn G y' cc' nL' ret' d' mc' ms' (vR (some x) :: As) h nx Post') (hf : rr_mv C y' cc' nL' ret' n) (hq : Cond.methodLink y.cls idx y' ∈ lw_all) (hc : rr_cl[ci]? = some (C, T, N)) (h0 : ci ≠ 0) (hx : h.1 x = ci) (hn : As.length = n)
    (hd : d' + 1 ≤ d) (hnl : nL' ≤ 45) (hw : rr_wd rest ≤ 8) (hmc : cu + mc' ≤ mc) (hms : su + ms' ≤ ms) (dg : decode cc pc = .ok (.invokevirtual idx, 3))
    (kk : ∀ (r : Option rr_V) (h' : rr_H) (nx' : Nat), Post' r h' nx' → rr_R G y cc nL ret d mc ms Q (pc + 3) ls (r.toList ++ rest) h' nx' (cu + mc') (su + ms')) : rr_R G y cc nL ret d mc ms Q pc ls st h nx cu su := by
  intro p e s m args below meth c H locs la hC hr hS hL
  obtain ⟨f1, f2, f3, f4, f5⟩ := hf
  have hts := hC.2.2.2.2.2.1
  obtain ⟨cell, q1, q2, q3, q4⟩ := hr.obj hc h0 hx
  obtain ⟨hS1, hfc, -⟩ := hC.2.2.2.2.2.2.2.2.1.1.1 ci _ hc
  refine rr_after (rest := rest) (va_runV (As := As.map (rr_g G)) (rest := rest.map (rr_g G)) (b := rr_ad G x) ⟨hC.1, hC.2.1, hC.2.2.2.1, hC.2.2.2.2.1, hts⟩ hM (cwV n hts (lw_V hq f1 f2 f3 f4) rfl rfl rfl f5 (rr_rooms hd hnl)) ⟨rr_w.blind, ⟨cell, q1, by rw [q3]; rfl, by rw [q2]; exact hfc⟩, fun U hU hW => ⟨rfl, hC.w hr hS U hU hW⟩⟩ rfl (by rw [List.length_map]; exact hn) hL.1.1 ?_ (lv_room (by rw [rr_wd_eq]; exact hw)) dg ⟨hmc, hms⟩) hC hS hL kk
  show st.map (rr_g G) = _
  rw [hst]
  simp [rr_g, va_rf]
theorem x_calls {As rest : List rr_V} {idx nL' d' mc' ms' n : Nat} {y' : MethodName} {cc' : ByteArray} {ret' : Option FieldType} {Post' : Option rr_V → rr_H → Nat → Prop}
    (hst : st = As.reverse ++ rest) (hM : rr_Cn G y' cc' nL' ret' d' mc' ms' As h nx Post') (hf : rr_ms y' cc' nL' ret' n) (hq : Cond.methodLink y.cls idx y' ∈ lw_all) (hn : As.length = n)
    (hd : d' + 1 ≤ d) (hnl : nL' ≤ 45) (hw : rr_wd rest ≤ 8) (hmc : cu + mc' ≤ mc) (hms : su + ms' ≤ ms) (dg : decode cc pc = .ok (.invokestatic idx, 3))
    (kk : ∀ (r : Option rr_V) (h' : rr_H) (nx' : Nat), Post' r h' nx' → rr_R G y cc nL ret d mc ms Q (pc + 3) ls (r.toList ++ rest) h' nx' (cu + mc') (su + ms')) : rr_R G y cc nL ret d mc ms Q pc ls st h nx cu su := by
  intro p e s m args below meth c H locs la hC hr hS hL
  obtain ⟨f1, f3, f4, f5⟩ := hf
  have hts := hC.2.2.2.2.2.1
  refine rr_after (rest := rest) (va_runS (As := As.map (rr_g G)) (rest := rest.map (rr_g G)) ⟨hC.1, hC.2.1, hC.2.2.2.1, hC.2.2.2.2.1, hts⟩ hM (va_cwS n hts (lw_S hq f1 f3 f4) rfl rfl rfl f5 (rr_rooms hd hnl)) ⟨rr_w.blind, fun U hU hW => ⟨rfl, hC.w hr hS U hU hW⟩⟩ rfl (by rw [List.length_map]; exact hn) hL.1.1 ?_ (lv_room (by rw [rr_wd_eq]; exact hw)) dg ⟨hmc, hms⟩) hC hS hL kk
  show st.map (rr_g G) = _
  rw [hst]
  simp
theorem x_calli {As rest : List rr_V} {x idx nL' d' mc' ms' n : Nat} {y' : MethodName} {cc' : ByteArray} {Post' : Option rr_V → rr_H → Nat → Prop}
    (hst : st = As.reverse ++ vR (some x) :: rest) (hM : rr_Cn G y' cc' nL' none d' mc' ms' (vR (some x) :: As) h nx Post') (hf : rr_mi y' cc' nL' n) (hq : Cond.methodLink y.cls idx y' ∈ lw_all) (hn : As.length = n)
    (hd : d' + 1 ≤ d) (hnl : nL' ≤ 45) (hw : rr_wd rest ≤ 8) (hmc : cu + mc' ≤ mc) (hms : su + ms' ≤ ms) (dg : decode cc pc = .ok (.invokespecial idx, 3))
    (kk : ∀ (r : Option rr_V) (h' : rr_H) (nx' : Nat), Post' r h' nx' → rr_R G y cc nL ret d mc ms Q (pc + 3) ls (r.toList ++ rest) h' nx' (cu + mc') (su + ms')) : rr_R G y cc nL ret d mc ms Q pc ls st h nx cu su := by
  intro p e s m args below meth c H locs la hC hr hS hL
  obtain ⟨f1, f3, f4, f6, f5⟩ := hf
  have hts := hC.2.2.2.2.2.1
  refine rr_after (rest := rest) (va_runI (As := As.map (rr_g G)) (rest := rest.map (rr_g G)) (b := rr_ad G x) ⟨hC.1, hC.2.1, hC.2.2.2.1, hC.2.2.2.2.1, hts⟩ hM (cwI n hts (lw_meth f4) rfl rfl rfl (hts _ f3) (hts _ hq) (hts _ f1) f6 f5 (rr_rooms hd hnl)) ⟨rr_w.blind, fun U hU hW => ⟨rfl, hC.w hr hS U hU hW⟩⟩ rfl (by rw [List.length_map]; exact hn) hL.1.1 ?_ (lv_room (by rw [rr_wd_eq]; exact hw)) dg ⟨hmc, hms⟩) hC hS hL kk
  show st.map (rr_g G) = _
  rw [hst]
  simp [rr_g, va_rf]
/-- Object.<init> -/
theorem x_oinit {x idx : Nat} (hq : Cond.methodLink y.cls idx objectInit ∈ lw_all) (hi : Cond.instanceMethod objectInit ∈ lw_all) (hcd : Cond.code objectInit ⟨#[0xb1]⟩ 1 none ∈ lw_all) (hd : 1 ≤ d) (hw : rr_wd st ≤ 8) (dg : decode cc pc = .ok (.invokespecial idx, 3)) (k : rr_R G y cc nL ret d mc ms Q (pc + 3) ls st h nx cu su) : rr_R G y cc nL ret d mc ms Q pc ls (vR (some x) :: st) h nx cu su := by
  intro p e s m args below meth c H locs la hC hr hS hL
  have hts := hC.2.2.2.2.2.1
  refine W.objInit hC.1 hC.2.1 hC.2.2.2.2.1 (hts _ hq) (hts _ hi) (hts _ hcd) rfl (by rw [hC.2.2.2.1]; exact hL.1.1) rfl dg (by unfold rr_rm; dsimp only; split <;> omega) ?_ (k p e s m args below meth c H locs la hC hr hS hL)
  have := lv_room (m := m) (pc := pc) (ls := la) (rest := (vR (some x) :: st).map (rr_g G)) (st := st.map (rr_g G)) (by rw [rr_wd_eq]; exact hw)
  show _ + 12 ≤ 64 * d + 3296
  omega
end RULES
