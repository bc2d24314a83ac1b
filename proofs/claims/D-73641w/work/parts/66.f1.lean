/-! RULES 5: a call by an interface that inherits the method it names (NavigableMap's put and size) -/
set_option maxRecDepth 100000
theorem rr_linkUp {args : Array Value} {first s : State} {o : Option Outcome} {idx : List Nat} {cls : String} {x : MethodName} {index d c : Nat} {ck ok : Class} {meth : Method} {mf : MethodId}
    (hd : s.vm.findClass cls = some d) (hc : s.vm.findClass x.cls = some c) (hck : s.vm.classes[c]? = some ck) (hvi : ck.isInterface = true) (hnone : ck.findMethod x.name x.desc = none)
    (hf : s.methodFound? x.cls x.name x.desc = some mf) (hok : s.vm.classes[mf.cls]? = some ok) (hm : ok.methods[mf.idx]? = some meth)
    (hcl0 : x.name ≠ "clone") (hx : x.cls ≠ "java/lang/invoke/MethodHandle" ∧ x.cls ≠ "java/lang/invoke/VarHandle")
    (h : (Cond.methodLink cls index x).holds args first o s idx = true) (pl : Platform) (hpl : pl.magicAccessors = ({} : Platform).magicAccessors) :
    ∃ ci, s.vm.MethodLinksFF pl d index ci c mf ∧ s.rightAt d index (.method mf) = true := by
  obtain ⟨k₀, hk₀, hname⟩ := Vm.findClass_spec hc
  cases hck.symm.trans hk₀
  have hpoly : ∀ z, signaturePolymorphic ck z = false := fun z => by simp [signaturePolymorphic, hname, hx.1, hx.2]
  have hmeth : s.vm.method? mf = some meth := by simp [Vm.method?, hok, hm]
  have hff := State.faceFind_of_found hc hck hvi hpoly hnone hf
  simp only [Cond.holds, Cond.value, hd, hc] at h
  cases hme : s.memberEntry? cls index with
  | none => simp [hme] at h
  | some me =>
    obtain ⟨ci, via⟩ := me
    cases hcl : s.classLinks cls ci x.cls with
    | none => simp [hme, hcl, hf] at h
    | some linked =>
      cases hdk : s.vm.classes[d]? with
      | none => simp [hme, hcl, hdk, hf] at h
      | some dk =>
        simp only [hme, hcl, hdk, hck, hok, hmeth, hf, Option.bind_eq_bind, Option.bind_some, Option.pure_def, beq_iff_eq, bne_iff_ne, ne_eq, Option.some.injEq, Bool.and_eq_true, Option.isNone_iff_eq_none] at h
        obtain ⟨⟨⟨⟨⟨⟨⟨rfl, hnm⟩, hopen⟩, hvia⟩, -⟩, -⟩, hml⟩, hacc⟩ := h
        have hpl4 : s.vm.Plain meth.accessFlags mf.cls ok c d dk := by
          rcases (Bool.or_eq_true _ _).mp hacc with h | h
          · simpa [Vm.Plain, plainAccess, or_assoc, and_assoc] using h
          · simp only [Bool.and_eq_true, beq_iff_eq] at h
            first
              | exact absurd h.1.2 hcl0
              | exact absurd h.2 hcl0
              | (exfalso; simp_all)
        rw [hvi] at hvia
        subst hvia
        obtain ⟨cr, hcr, hlinks⟩ := State.classLinks_spec hd hcl pl hpl
        cases hc.symm.trans hcr
        obtain ⟨cp, hcp, hnames⟩ := State.names_spec hnm
        obtain ⟨dk', cf, hdk', hcf, rfl⟩ := State.poolOf?_spec hd hcp
        cases hdk.symm.trans hdk'
        obtain ⟨ci', nt, hent, hnt, -⟩ := namesOf?_method hnames
        have hent' : ci' = ci ∧ cf.constantPool[index]? = some (.interfaceMethodref ci nt) := by
          rcases hent with hent | hent
          · simp only [State.memberEntry?, hcp, Option.bind_eq_bind, Option.bind_some, hent, Option.some.injEq, Prod.mk.injEq] at hme
            exact absurd hme.2 (by simp)
          · simp only [State.memberEntry?, hcp, Option.bind_eq_bind, Option.bind_some, hent, Option.some.injEq, Prod.mk.injEq] at hme
            obtain ⟨rfl, -⟩ := hme
            exact ⟨rfl, hent⟩
        obtain ⟨rfl, hent''⟩ := hent'
        have hne : ci' ≠ index := by
          intro he
          obtain ⟨_, cf', name', _, hd', hcf', _, hname', _⟩ := hlinks.here
          cases hdk.symm.trans hd'
          cases hcf.symm.trans hcf'
          subst he
          simp [ConstantPool.className?, hent''] at hname'
        have hdl : dk.loader = none := by
          obtain ⟨dk', _, _, _, hd', _, hl', _⟩ := hlinks.here
          cases hdk.symm.trans hd'; exact hl'
        refine ⟨ci', ⟨dk, cf, nt, x.name, x.desc, ck, ok, meth, hdk, hcf, hent'', hnt, hlinks, hne, hck, hvi, hpoly, hnone, hff, hok, hm, hdl.trans hml.symm, hpl4, State.openOr_spec hd hdk hopen⟩, ?_⟩
        simp [State.rightAt, hdk, hcf, hnames, hf]
theorem rr_callUp {p : Program} {l : Launch} {e : Env} {R : Room} {s : State} {m : MethodId} {args : Array Value} {below : List Frame} {meth : Method} {c : Code} {locs : List Loc} {cells slots : Nat} {T : State} (X : Stand p l e R s m args below meth c T locs cells slots) (hexec : p.tables.exec = Jvm.exec) {own C J : String} {index count : Nat} {x y : MethodName} {bytes : ByteArray} {maxL : Nat} {ret : Option FieldType}
    (hown : s.vm.findClass own = some m.cls) (hlink : (Cond.methodLink own index x).before args s = true) (hdecl : (Cond.declares ⟨J, x.name, x.desc⟩).before args s = true) (hface : (Cond.interfaceMethod x.cls J x.name x.desc).before args s = true)
    (hsel : (Cond.selects C ⟨J, x.name, x.desc⟩ y).before args s = true) (hinst : (Cond.instanceMethod y).before args s = true) (hpub : (Cond.publicMethod y).before args s = true) (hunh : (Cond.unhidden C x.name x.desc).before args s = true)
    (hcast : (Cond.castable C x.cls).before args s = true) (hxo : x.cls ≠ J) (hcl0 : x.name ≠ "clone") (hx : x.cls ≠ "java/lang/invoke/MethodHandle" ∧ x.cls ≠ "java/lang/invoke/VarHandle") (hJ : J ≠ "java/lang/invoke/MethodHandle" ∧ J ≠ "java/lang/invoke/VarHandle")
    {W : Nat} {Pre : Pt → Array Value → Prop} {Post : Pt → Array Value → Option Value → Pt → Prop} (hK : Back l R p e below s args y 5 W Pre Post)
    {b : Addr} {cellB : Cell} {kB : Class} (hcell : T.heap[b]? = some cellB) (hobj : cellB.vm.isStatics = false) (hcls : s.vm.findClass C = some cellB.cls) (hkB : s.vm.classes[cellB.cls]? = some kB)
    {g : JFrame} (hg : g.method = m) (hsize : g.locals.size = c.maxLocals) {argsL rest : List Value} (hlen : ∀ sig, parseMethodDescriptor x.desc = some sig → argsL.length = sig.parameters.length)
    (hstack : g.stack = argsL.reverse ++ .ref b :: rest) (hW : 2 * g.monitorRoom + (rest.map fun v => v.category).sum ≤ W) (hdg : decode c.code g.pc = .ok (.invokeinterface index count, 5))
    (hpre : ∀ vm₁, s.WarmedH vm₁ → Pre ⟨T.setVm vm₁, locs, cells, slots⟩ (Value.ref b :: argsL).toArray) :
    ∃ (v : Option Value) (vm₁ : Vm) (B : Pt), s.WarmedH vm₁ ∧ Stand p l e R s m args below meth c B.U B.locs B.cells B.slots ∧ Post ⟨T.setVm vm₁, locs, cells, slots⟩ (Value.ref b :: argsL).toArray v B ∧
      Goes p e below T g B.U { g with pc := g.pc + 5, stack := v.toList ++ rest } := by
  have hplat : e.platform.magicAccessors = ({} : Platform).magicAccessors := by rw [X.admits.platform]
  obtain ⟨r0, r, hn, hrm, hstR, hsigR⟩ := Cond.declares_spec hdecl
  obtain ⟨okc, hok, hokname⟩ := className_of_methodNamed hn
  have hmO : okc.methods[r0.idx]? = some r := by simpa [Vm.method?, hok] using hrm
  obtain ⟨cI, kL, r1, hcL, hkL, hiL, hfoundL, hn1⟩ := Cond.interfaceMethod_spec hface
  cases hn.symm.trans hn1
  obtain ⟨kL', hkL', hnameL⟩ := Vm.findClass_spec hcL
  cases hkL.symm.trans hkL'
  have hpolyL : ∀ z, signaturePolymorphic kL z = false := fun z => by simp [signaturePolymorphic, hnameL, hx.1, hx.2]
  have hnone : kL.findMethod x.name x.desc = none := by
    cases hj : kL.findMethod x.name x.desc with
    | none => rfl
    | some j =>
      exfalso
      have hsome : (kL.methods[j]?).isSome := by
        obtain ⟨hlt, -, -⟩ := Array.findIdx?_eq_some_iff_getElem.mp hj
        simp [hlt]
      have h2 := State.methodFound?_declared hcL hkL hpolyL hj hsome
      rw [hfoundL] at h2
      have e1 : r0 = ⟨cI, j⟩ := Option.some.inj h2
      have e2 : r0.cls = cI := by rw [e1]
      rw [e2] at hok
      cases hkL.symm.trans hok
      exact hxo (hnameL.symm.trans hokname)
  obtain ⟨mk, methM, hnamed, hmethM, -, habM⟩ := Cond.instanceMethod_spec hinst
  obtain ⟨c2, r2, m2, q1, q2, q3, q4, -⟩ := Cond.selects_spec hsel
  cases hcls.symm.trans q1
  have hr2 : r2 = r0 := by
    have h9 := State.methodFound?_of_named hn hJ
    exact (Option.some.inj (h9.symm.trans q2)).symm
  subst hr2
  cases hnamed.symm.trans q3
  have hselP : selectMethod e.platform s.vm cellB.cls r2 = .method mk := by rw [Launch.admits_selectMethod X.admits]; exact q4
  have hpubM : hasFlag methM.accessFlags Acc.public_ = true := Cond.publicMethod_spec hnamed hmethM hpub
  obtain ⟨hnameR, hdescR⟩ := name_of_methodNamed hn hrm
  have hway : ((cellB.cls :: s.vm.superclasses cellB.cls).any fun k => (declaredIn s.vm r.name r.desc k).any fun (_, z) => z.isPrivate || z.isStatic) = false := by
    rw [hnameR, hdescR]; exact Cond.unhidden_spec hcls hunh
  obtain ⟨c3, t3, w1, w2, w3⟩ := Cond.castable_spec hcast
  cases hcls.symm.trans w1
  cases hcL.symm.trans w2
  obtain ⟨ci, hl, hright⟩ := rr_linkUp hown hcL hkL hiL hnone hfoundL hok hmO hcl0 hx hlink e.platform hplat
  have hE : s.MethodEntryUp e T.vm m.cls index cI r2 ci := State.methodEntryFF X.warmed hl hright
  obtain ⟨dk, cfile, nt, _, _, ck, _, _, hd, hcf, hcp, -, -, -, hck, hvia, -⟩ := hl.here
  cases hkL.symm.trans hck
  have alike := hE.warmed.alike
  obtain ⟨dk₂, hdk₂, hres⟩ := hE.classReady
  obtain ⟨dk₃, hdk₃, hed⟩ := alike.2.2 _ _ hd
  cases hdk₂.symm.trans hdk₃
  obtain ⟨ck₂, hck₂, hec⟩ := alike.2.2 _ _ hck
  obtain ⟨kcell₂, hkcell₂, -⟩ := alike.2.2 _ _ hkB
  have X₁ := X.noted hE.warmed
  have hobj2 : ∀ z, cellB.vm ≠ .statics z := fun z h => by rw [h] at hobj; cases hobj
  have hlenR : argsL.length = r.sig.parameters.length := hlen _ hsigR
  subst hg
  have hstep₁ : ∀ target, (∀ acts, Steps p.tables e below (doInvoke e ((T.setVm (T.vm.calledUp g.method.cls ci index cI r2)).setTop { g with stack := rest }) acts mk (.ref b :: argsL).toArray).1 target) → Steps p.tables e below (T.setTop g) target := by
    intro target hrest
    jvm_step X.here [hexec, hdg, Jvm.Op.invokeinterface.wp_coldFace (e := e) (s := T) (s₀ := s) (f := g) (count := count) X.here.top X.warmed hE hd hcf (Or.inr hcp) hck hvia,
      Jvm.Op.invokeinterface.wp_ready (e := e) (s := T.setVm (T.vm.calledUp g.method.cls ci index cI r2)) (f := g) (count := count) (r := r) (meth := methM) (m := mk) (args := argsL) (rest := rest) (cell := cellB) (kcell := kcell₂) (ck := dk₂) (nk := ck₂) (cf := cfile) (ci := ci) (nt := nt) (named := cI)
        X.here.top hE.ready (by show (T.vm.calledUp g.method.cls ci index cI r2).method? r2 = some r; rw [alike.method?]; exact hrm) hstR hlenR hstack hcell hobj2 hkcell₂ hdk₂ (by rw [hed]; exact hcf) hcp hres hck₂ (by rw [hec]; exact hvia)
        (by show (T.vm.calledUp g.method.cls ci index cI r2).assignable cellB.cls cI = true; rw [alike.assignable]; exact w3)
        (by show selectMethod e.platform (T.vm.calledUp g.method.cls ci index cI r2) cellB.cls r2 = .method mk; rw [alike.selectMethod]; exact hselP)
        (by show (T.vm.calledUp g.method.cls ci index cI r2).method? mk = some methM; rw [alike.method?]; exact hmethM)
        (Or.inr (Or.inr (by show ((cellB.cls :: (T.vm.calledUp g.method.cls ci index cI r2).superclasses cellB.cls).any fun k => (declaredIn (T.vm.calledUp g.method.cls ci index cI r2) r.name r.desc k).any fun (_, z) => z.isPrivate || z.isStatic) = false; simp only [alike.superclasses, alike.declaredIn]; exact hway)))
        (Or.inl hpubM) habM]
    exact hrest
  obtain ⟨v, B, X', hpost, hsteps⟩ := hK g.method meth c ⟨T.setVm (T.vm.calledUp g.method.cls ci index cI r2), locs, cells, slots⟩ { g with stack := rest } (.invokeinterface index count) mk (Value.ref b :: argsL).toArray X₁ rfl hsize hdg hW (X₁.named hnamed) (hpre _ X₁.warmed)
  exact ⟨v, _, B, X₁.warmed, X', hpost, fun target h => hstep₁ _ fun acts => by rw [doInvoke_state]; exact hsteps.trans h⟩
section RULES
variable {G : rr_G} {y : MethodName} {cc : ByteArray} {nL : Nat} {ret : Option FieldType} {d mc ms : Nat} {Q : List Frame → Array Value → State → State → Prop} {pc : Nat} {ls : List (Option rr_V)} {st : List rr_V} {h : rr_H} {nx cu su : Nat}
/-- TreeSet's calls of its NavigableMap, which is a TreeMap -/
theorem x_callNM {As rest : List rr_V} {x idx cnt nL' d' mc' ms' n : Nat} {nm ds : String} {y' : MethodName} {cc' : ByteArray} {ret' : Option FieldType} {Post' : Option rr_V → rr_H → Nat → Prop}
    (hst : st = As.reverse ++ vR (some x) :: rest) (hM : rr_Cn G y' cc' nL' ret' d' mc' ms' (vR (some x) :: As) h nx Post') (hq : Cond.methodLink y.cls idx ⟨"java/util/NavigableMap", nm, ds⟩ ∈ rr_n2) (hfc : Cond.interfaceMethod "java/util/NavigableMap" "java/util/Map" nm ds ∈ rr_n2) (hdl : Cond.declares ⟨"java/util/Map", nm, ds⟩ ∈ lw_tbl) (hsl : Cond.selects "java/util/TreeMap" ⟨"java/util/Map", nm, ds⟩ y' ∈ lw_all) (hin : Cond.instanceMethod y' ∈ lw_all) (hini : Cond.initialized y'.cls ∈ lw_all) (hcd : Cond.code y' cc' nL' ret' ∈ lw_all) (hpb : Cond.publicMethod y' ∈ lw_tbl) (huh : Cond.unhidden "java/util/TreeMap" nm ds ∈ lw_tbl) (hct : Cond.castable "java/util/TreeMap" "java/util/NavigableMap" ∈ lw_tbl)
    (hcl0 : nm ≠ "clone") (hds : (parseMethodDescriptor ds).map (fun d => d.parameters.length) = some n) (hx : h.1 x = 16) (hn : As.length = n)
    (hd : d' + 1 ≤ d) (hnl : nL' ≤ 45) (hw : rr_wd rest ≤ 8) (hmc : cu + mc' ≤ mc) (hms : su + ms' ≤ ms) (dg : decode cc pc = .ok (.invokeinterface idx cnt, 5))
    (kk : ∀ (r : Option rr_V) (h' : rr_H) (nx' : Nat), Post' r h' nx' → rr_R G y cc nL ret d mc ms Q (pc + 5) ls (r.toList ++ rest) h' nx' (cu + mc') (su + ms')) : rr_R G y cc nL ret d mc ms Q pc ls st h nx cu su := by
  intro p e s m args below meth c H locs la hC hr hS hL
  have hts := hC.2.2.2.2.2.1
  have hvm := hC.2.2.2.2.2.2.2.2.1
  have hc16 : rr_cl[16]? = some (RJ1, TJ1, 9) := rfl
  have hpre := rr_pre (As := As) hC hr hS hc16 (by decide) hx
  have hG : GoodIn lw_all (ws_ y' cc' nL' ret') := lw_meth hcd
  have hroom := rr_rooms (mc := mc) (ms := ms) (mc' := mc') (ms' := ms') hd hnl
  refine rr_after5 (rest := rest) (Post' := Post') (a := (Value.ref (rr_ad G x) :: As.map (rr_g G)).toArray) ?_ hC hS hL kk
  have hK : Back G.1.1 (rr_rm d mc ms) p e below s args y' 5 8 (PreOf (rr_rm d mc ms) mc' ms' (va_Pc ((vR (some x) :: As).map (rr_g G)) (fun U => rr_w G h nx U))) (PostOf (rr_Q G Post') mc' ms' (rr_A G)) := back_of (bytes := cc') (maxL := nL') (ret := ret') hM hpre.1 rfl rfl hroom.1 hroom.2 (pay_in hts hG) List.mem_cons_self (fun a' U hW => word_at hW (Or.inl (by first | rfl | simp [Cond.onTables, Cond.keeps, Cond.steady])) (hts _ hini))
  obtain ⟨-, ⟨cellB, hcB, hoB, hclB⟩, hPc⟩ := hpre
  obtain ⟨hfc2, kB, hkB, -⟩ := (hvm.1.1 16 _ hc16).2
  have hclB' : s.vm.findClass RJ1 = some cellB.cls := hclB
  have e9 : G.2.2.2.1 16 = cellB.cls := Option.some.inj (hfc2.symm.trans hclB')
  have hkB : s.vm.classes[cellB.cls]? = some kB := by rw [← e9]; exact hkB
  intro T hT X
  have hstack : (F0 m pc la (st.map (rr_g G))).stack = (As.map (rr_g G)).reverse ++ .ref (rr_ad G x) :: rest.map (rr_g G) := by
    show st.map (rr_g G) = _
    rw [hst]
    simp [rr_g, va_rf]
  obtain ⟨v, vm₁, ⟨U', l2, c2, s2⟩, hW₁, X', ⟨g', mk, t, L, e1, e2, hqq, h1, hL2, h2, h3⟩, stp⟩ := rr_callUp (J := "java/util/Map") (C := "java/util/TreeMap") X hC.1 (bytes := cc') (maxL := nL') (ret := ret') hC.2.2.2.2.1 (va_Nw.use rfl (hvm.2.2.2.2.2.2.1 _ hq)) (va_Nw.use rfl (hvm.2.1 _ (rr_x hdl rfl))) (va_Nw.use rfl (hvm.2.2.2.2.2.2.1 _ hfc)) (hts _ hsl) (hts _ hin) (va_Nw.use rfl (hvm.2.1 _ (rr_x hpb rfl))) (va_Nw.use rfl (hvm.2.1 _ (rr_x huh rfl))) (va_Nw.use rfl (hvm.2.1 _ (rr_x hct rfl))) (show "java/util/NavigableMap" ≠ "java/util/Map" by decide) hcl0 (show "java/util/NavigableMap" ≠ "java/lang/invoke/MethodHandle" ∧ "java/util/NavigableMap" ≠ "java/lang/invoke/VarHandle" from ⟨by decide, by decide⟩) ⟨by decide, by decide⟩ hK (by rw [hT]; exact hcB) hoB hclB hkB (g := F0 m pc la (st.map (rr_g G))) rfl (by rw [hC.2.2.2.1]; exact hL.1.1) (argsL := As.map (rr_g G)) (rest := rest.map (rr_g G)) (fun sig h => by
      have h2 := hds
      rw [h] at h2
      rw [List.length_map, hn]
      exact (Option.some.inj h2).symm) hstack (lv_room (by rw [rr_wd_eq]; exact hw)) (by rw [hC.2.1]; exact dg) (fun vm₁ hW₁ => ⟨hmc, hms, hPc (T.setVm vm₁) hT hW₁⟩)
  dsimp only [Pt.U, Pt.locs, Pt.cells, Pt.slots] at X' e1 e2 h1 h2 h3 stp
  subst h1; subst h2; subst h3
  exact ⟨v, (T.setVm vm₁).calling g' mk (Value.ref (rr_ad G x) :: As.map (rr_g G)).toArray, t, U', L, hT, X', hL2, e1, e2, hqq, stp⟩
end RULES
