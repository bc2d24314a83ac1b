/-! BASE: the logic rr_: whole numbers, one handle space -/
set_option maxRecDepth 100000
abbrev rr_V : Type := Int ⊕ (Int ⊕ Option Nat)
abbrev vI (z : Int) : rr_V := Sum.inl z
abbrev vJ (z : Int) : rr_V := Sum.inr (Sum.inl z)
abbrev vR (r : Option Nat) : rr_V := Sum.inr (Sum.inr r)
/-- kinds, lengths, ints, references, by handles -/
abbrev rr_H : Type := (Nat → Nat) × (Nat → Nat) × (Nat → Int → Int) × (Nat → Int → Option Nat)
/-- (launch, own addresses, unknown statics), first address, constants' addresses, class numbers, field slots, array classes -/
abbrev rr_G : Type := (Launch × (Nat → Prop) × (Nat → Option Nat)) × Nat × (Nat → Nat) × (Nat → ClassId) × (Nat → Nat → Nat) × (Nat → ClassId)
def rr_ad (G : rr_G) (x : Nat) : Nat := if x < 300 then G.2.2.1 x else G.2.1 + (x - 300)
def rr_g (G : rr_G) : rr_V → Value
  | .inl z => .int (Int32.ofInt z)
  | .inr (.inl z) => .long (Int64.ofInt z)
  | .inr (.inr r) => va_rf (r.map (rr_ad G))
def rr_fv (G : rr_G) (ty : FieldType) (z : Int) (r : Option Nat) : Value := match ty with
  | .long => .long (Int64.ofInt z)
  | .object _ => va_rf (r.map (rr_ad G))
  | .array _ => va_rf (r.map (rr_ad G))
  | _ => .int (Int32.ofInt z)
/-- the classes by their kinds (kind 0: no claim) -/
def rr_cl : List vw_C := [(RX0, TX0, 31), (RX0, TX0, 31), (RX4, TX4, 46), (RX1, TX1, 12), (RX8, TX8, 2), (RX12, TX12, 3), (RX3, TX3, 3), (RX2, TX2, 3), (RX11, TX11, 2), (RX7, TX7, 3), (RX9, TX9, 2), (RX5, TX5, 2), (RX6, TX6, 7), (RX10, TX0, 0), (RJ7, TJ7, 4), (RJ6, TJ6, 4), (RJ1, TJ1, 9), (RJ19, TJ19, 6), (RJ18, TJ18, 1), (RJ20, TJ20, 1), (RJ24, TJ24, 4), (RJ30, TJ30, 4), (RJ4, TJ4, 1), (RJ32, TX0, 0)]
/-- what the lambdas (kinds 24 to 30) have caught -/
def rr_lt : List (List FieldType) := [[.int, .int], [.object "UnreadSigns", .int], [.array .int, .int, .int, .boolean, .array .int, .boolean], [.object "UnreadSigns", .int], [.object "UnreadSigns", .int], [.object "UnreadSigns"], [.object "UnreadSigns", .int, .int]]
def rr_tl : List (Nat → FieldType) := [tyX0, tyX0, tyX4, tyX1, tyX8, tyX12, tyX3, tyX2, tyX11, tyX7, tyX9, tyX5, tyX6, tyX0, tyJ7, tyJ6, tyJ1, tyJ19, tyJ18, tyJ20, tyJ24, tyJ30, tyJ4, tyX0] ++ rr_lt.map (fun l j => (l[j]?).getD .int)
def rr_nl : List Nat := [31, 31, 46, 12, 2, 3, 3, 3, 2, 3, 2, 2, 7, 0, 4, 4, 9, 6, 1, 1, 4, 4, 1, 0, 2, 2, 6, 2, 2, 1, 3]
def rr_al : List FieldType := [.int, .byte, .boolean, .object "java/lang/Object", .object "UnreadSigns$Stone", .object "UnreadSigns$Clue", .object "UnreadSigns$Word", .object "UnreadSigns$Two", .object "UnreadSigns$Act", .object "java/lang/String", .array .int, .array (.object "java/lang/String")]
def rr_nf (k : Nat) : Nat := (rr_nl[k]?).getD 0
def rr_ty (k j : Nat) : FieldType := match rr_tl[k]? with
  | some f => f j
  | none => .int
def rr_et (t : Nat) : FieldType := (rr_al[t]?).getD .int
def rr_tys (G : rr_G) : List (ClassId × FieldType) := rr_al.mapIdx (fun t ty => (G.2.2.2.2.2 t, ty))
def rr_cel (G : rr_G) (h : rr_H) (x : Nat) (H : Heap) : Prop :=
  if h.1 x < 64 then t_OB (rr_ad G x) (G.2.2.2.1 (h.1 x)) (rr_nf (h.1 x)) (G.2.2.2.2.1 (h.1 x)) H (fun j => rr_fv G (rr_ty (h.1 x) j) (h.2.2.1 x j) (h.2.2.2 x j))
  else H[rr_ad G x]? = some (arrV (G.2.2.2.2.2 (h.1 x - 64)) (h.2.1 x) (fun j => rr_fv G (rr_et (h.1 x - 64)) (h.2.2.1 x j) (h.2.2.2 x j)))
/-- the heap holds the picture; nx: the next handle -/
def rr_A (G : rr_G) : Nat → Prop := G.1.2.1
def rr_own (G : rr_G) (h : rr_H) (nx : Nat) : Prop := (∀ x, 300 ≤ x → h.1 x ≠ 0 → rr_A G (rr_ad G x)) ∧ ∀ q, G.2.1 + (nx - 300) ≤ q → rr_A G q
def rr_rel (G : rr_G) (h : rr_H) (nx : Nat) (H : Heap) : Prop :=
  300 ≤ nx ∧ H.size = G.2.1 + (nx - 300) ∧ (∀ x, h.1 x ≠ 0 → x < nx ∧ (x < 300 → G.2.2.1 x < G.2.1) ∧ rr_cel G h x H) ∧ rr_own G h nx
/-- the tables' words that don't ride in the lists -/
def rr_xk : Cond → Bool
  | .fieldLinkNest .. => true
  | .methodLinkNest .. => true
  | .declares _ => true
  | .castable .. => true
  | .publicMethod .. => true
  | .unhidden .. => true
  | .arrayOver (.object _) => true
  | .arrayOver (.array _) => true
  | _ => false
def rr_xs : List Cond := lw_tbl.filter rr_xk
/-- statics: class, name, descriptor, value -/
def rr_sl (G : rr_G) : List (String × String × String × rr_V) := [("java/lang/String", "COMPACT_STRINGS", "Z", vI 1), ("jdk/internal/util/Preconditions", "SIOOBE_FORMATTER", "Ljava/util/function/BiFunction;", vR (G.1.2.2 0)), ("java/util/TreeSet", "PRESENT", "Ljava/lang/Object;", vR (some 6)), ("java/lang/Integer$IntegerCache", "high", "I", vI 127), ("java/lang/Integer$IntegerCache", "cache", "[Ljava/lang/Integer;", vR (some 1)), ("java/lang/Throwable", "UNASSIGNED_STACK", "[Ljava/lang/StackTraceElement;", vR (G.1.2.2 1)), ("java/lang/Throwable", "SUPPRESSED_SENTINEL", "Ljava/util/List;", vR (G.1.2.2 2))]
/-- String constants: class, entry, text, handle -/
def rr_kl : List (String × Nat × String × Nat) := [("UnreadSigns$Reader", 111, "ptkmnrlswj", 2), ("UnreadSigns$Reader", 117, "aeiou", 4), ("UnreadSignsModel", 197, "ptkmnrlswj", 2), ("UnreadSignsModel", 206, "aeiou", 4)]
/-- calls by an interface: class, method named, method run -/
def rr_fl : List (String × MethodName × MethodName) := [("java/util/TreeMap$Values", ⟨"java/util/Collection", "iterator", "()Ljava/util/Iterator;"⟩, yJ20_iterator), ("java/util/TreeMap$ValueIterator", ⟨"java/util/Iterator", "hasNext", "()Z"⟩, yJ22_hasNext), ("java/util/TreeMap$ValueIterator", ⟨"java/util/Iterator", "next", "()Ljava/lang/Object;"⟩, yJ24_next), ("java/lang/Integer", ⟨"java/lang/Comparable", "compareTo", "(Ljava/lang/Object;)I"⟩, yJ4_compareTo), ("java/lang/String", ⟨"java/lang/Comparable", "compareTo", "(Ljava/lang/Object;)I"⟩, yJ7_compareTo), ("UnreadSigns$Two", ⟨"java/lang/Comparable", "compareTo", "(Ljava/lang/Object;)I"⟩, yX7_compareTo), ("UnreadSigns$ByCount", ⟨"java/util/Comparator", "compare", "(Ljava/lang/Object;Ljava/lang/Object;)I"⟩, yX10_compare)]
/-- words that the tables lack -/
def rr_n2 : List Cond := [.methodLink "java/util/TreeSet" 69 ⟨"java/util/NavigableMap", "put", "(Ljava/lang/Object;Ljava/lang/Object;)Ljava/lang/Object;"⟩, .interfaceMethod "java/util/NavigableMap" "java/util/Map" "put" "(Ljava/lang/Object;Ljava/lang/Object;)Ljava/lang/Object;", .methodLink "java/util/TreeSet" 53 ⟨"java/util/NavigableMap", "size", "()I"⟩, .interfaceMethod "java/util/NavigableMap" "java/util/Map" "size" "()I", .selects "java/lang/StringBuilder" ⟨"java/lang/AbstractStringBuilder", "ensureCapacityInternal", "(I)V"⟩ ⟨"java/lang/AbstractStringBuilder", "ensureCapacityInternal", "(I)V"⟩, .selects "java/lang/StringBuilder" ⟨"java/lang/AbstractStringBuilder", "newCapacity", "(I)I"⟩ ⟨"java/lang/AbstractStringBuilder", "newCapacity", "(I)I"⟩]
/-- sites of lambdas -/
def rr_ml : List (MethodName × Nat × Nat × Lambda.Shape) := [(⟨"UnreadSigns", "unlikeOf", "(II)I"⟩, 32, 173, ({ iface := "UnreadSigns$Shift", name := "of", sam := ({ parameters := [FieldType.int], returnType := (Option.some FieldType.int) } : MethodDescriptor), captured := [FieldType.int, FieldType.int], kind := 6, implClass := "UnreadSigns", implName := "lambda$unlikeOf$0", implDesc := ({ parameters := [FieldType.int, FieldType.int, FieldType.int], returnType := (Option.some FieldType.int) } : MethodDescriptor), implItf := false, inst := ({ parameters := [FieldType.int], returnType := (Option.some FieldType.int) } : MethodDescriptor) } : Lambda.Shape)), (⟨"UnreadSigns", "loose", "(I)I"⟩, 44, 512, ({ iface := "UnreadSigns$Back", name := "goes", sam := ({ parameters := [], returnType := (Option.none : Option FieldType) } : MethodDescriptor), captured := [(FieldType.object "UnreadSigns"), FieldType.int], kind := 5, implClass := "UnreadSigns", implName := "lambda$loose$1", implDesc := ({ parameters := [FieldType.int], returnType := (Option.none : Option FieldType) } : MethodDescriptor), implItf := false, inst := ({ parameters := [], returnType := (Option.none : Option FieldType) } : MethodDescriptor) } : Lambda.Shape)), (⟨"UnreadSigns", "tellsTwo", "([I[IIIZ)Z"⟩, 67, 526, ({ iface := "UnreadSigns$Back", name := "goes", sam := ({ parameters := [], returnType := (Option.none : Option FieldType) } : MethodDescriptor), captured := [(FieldType.array FieldType.int), FieldType.int, FieldType.int, FieldType.boolean, (FieldType.array FieldType.int), FieldType.boolean], kind := 6, implClass := "UnreadSigns", implName := "lambda$tellsTwo$2", implDesc := ({ parameters := [(FieldType.array FieldType.int), FieldType.int, FieldType.int, FieldType.boolean, (FieldType.array FieldType.int), FieldType.boolean], returnType := (Option.none : Option FieldType) } : MethodDescriptor), implItf := false, inst := ({ parameters := [], returnType := (Option.none : Option FieldType) } : MethodDescriptor) } : Lambda.Shape)), (⟨"UnreadSigns", "way", "(I)I"⟩, 44, 535, ({ iface := "UnreadSigns$Back", name := "goes", sam := ({ parameters := [], returnType := (Option.none : Option FieldType) } : MethodDescriptor), captured := [(FieldType.object "UnreadSigns"), FieldType.int], kind := 5, implClass := "UnreadSigns", implName := "lambda$way$3", implDesc := ({ parameters := [FieldType.int], returnType := (Option.none : Option FieldType) } : MethodDescriptor), implItf := false, inst := ({ parameters := [], returnType := (Option.none : Option FieldType) } : MethodDescriptor) } : Lambda.Shape)), (⟨"UnreadSigns", "rise", "(I)I"⟩, 44, 538, ({ iface := "UnreadSigns$Back", name := "goes", sam := ({ parameters := [], returnType := (Option.none : Option FieldType) } : MethodDescriptor), captured := [(FieldType.object "UnreadSigns"), FieldType.int], kind := 5, implClass := "UnreadSigns", implName := "lambda$rise$4", implDesc := ({ parameters := [FieldType.int], returnType := (Option.none : Option FieldType) } : MethodDescriptor), implItf := false, inst := ({ parameters := [], returnType := (Option.none : Option FieldType) } : MethodDescriptor) } : Lambda.Shape)), (⟨"UnreadSigns", "clue", "(IIZ)I"⟩, 120, 546, ({ iface := "UnreadSigns$Back", name := "goes", sam := ({ parameters := [], returnType := (Option.none : Option FieldType) } : MethodDescriptor), captured := [(FieldType.object "UnreadSigns")], kind := 5, implClass := "UnreadSigns", implName := "lambda$clue$5", implDesc := ({ parameters := [], returnType := (Option.none : Option FieldType) } : MethodDescriptor), implItf := false, inst := ({ parameters := [], returnType := (Option.none : Option FieldType) } : MethodDescriptor) } : Lambda.Shape)), (⟨"UnreadSigns", "guess", "(III)I"⟩, 104, 553, ({ iface := "UnreadSigns$Back", name := "goes", sam := ({ parameters := [], returnType := (Option.none : Option FieldType) } : MethodDescriptor), captured := [(FieldType.object "UnreadSigns"), FieldType.int, FieldType.int], kind := 5, implClass := "UnreadSigns", implName := "lambda$guess$6", implDesc := ({ parameters := [FieldType.int, FieldType.int], returnType := (Option.none : Option FieldType) } : MethodDescriptor), implItf := false, inst := ({ parameters := [], returnType := (Option.none : Option FieldType) } : MethodDescriptor) } : Lambda.Shape))]
def rr_lam (x : MethodName) (pc idx : Nat) (sh : Lambda.Shape) (c : ClassId) (U : State) : Prop := U.lambdaAt? x pc idx sh = some (c, none)
def rr_vm (G : rr_G) (U : State) : Prop := va_K (G.2.2.2.1, G.2.2.2.2.1) rr_cl (rr_tys G) U ∧ (∀ w ∈ rr_xs, va_Nw w U) ∧ (∀ q ∈ rr_kl, vk_R q.1 q.2.1 q.2.2.1 (G.2.2.1 q.2.2.2) U) ∧ (∀ q ∈ rr_fl, va_Fw q.1 q.2.1 q.2.2 U) ∧ (∀ (i : Nat) (q : MethodName × Nat × Nat × Lambda.Shape), rr_ml[i]? = some q → rr_lam q.1 q.2.1 q.2.2.1 q.2.2.2 (G.2.2.2.1 (24 + i)) U) ∧ (∀ i j, G.2.2.2.2.1 (24 + i) j = j) ∧ (∀ w ∈ rr_n2, va_Nw w U) ∧ va_Mi "[Ljava/lang/Object;" (G.2.2.1 7) U
def rr_st (G : rr_G) (U : State) (H : Heap) : Prop := (∀ q ∈ rr_sl G, va_Z q.1 q.2.1 q.2.2.1 (rr_g G q.2.2.2) (rr_A G) U H) ∧ va_T (.object "java/lang/Integer") (G.2.2.1 1) 256 (fun j => .ref (G.2.2.1 (30 + j))) (rr_A G) U H
def rr_w (G : rr_G) (h : rr_H) (nx : Nat) (U : State) : Prop := rr_rel G h nx U.heap ∧ rr_vm G U ∧ rr_st G U U.heap
/-- room: the law's own is rr_rm 1325 -/
def rr_rm (d mc ms : Nat) : Room := { frames := if 1325 ≤ d then 2048 + (d - 1325) else d, cells := mc, slots := ms, locals := 64 * d + 3296 }
def rr_Q (G : rr_G) (Post : Option rr_V → rr_H → Nat → Prop) : Array Value → State → Outcome → State → Prop := fun _ st oc t =>
  (∃ (r : Option rr_V) (h : rr_H) (nx : Nat), oc = .returned (r.map (rr_g G)) ∧ Post r h nx ∧ rr_rel G h nx t.heap) ∧ va_F (rr_A G) st t
/-- the contract of a method -/
def rr_Cn (G : rr_G) (y : MethodName) (cc : ByteArray) (nL : Nat) (ret : Option FieldType) (d mc ms : Nat) (as : List rr_V) (h : rr_H) (nx : Nat) (Post : Option rr_V → rr_H → Nat → Prop) : Prop :=
  Met G.1.1 y (ws_ y cc nL ret) (rr_rm d mc ms) (va_Pc (as.map (rr_g G)) (fun U => rr_w G h nx U)) (rr_Q G Post) mc ms (rr_A G)
def rr_C (G : rr_G) (y : MethodName) (cc : ByteArray) (nL : Nat) (ret : Option FieldType) (p : Program) (s : State) (m : MethodId) (args : Array Value) (meth : Method) (c : Code) : Prop :=
  p.tables.exec = Jvm.exec ∧ c.code = cc ∧ meth.sig.returnType = ret ∧ c.maxLocals = nL ∧ s.vm.findClass y.cls = some m.cls ∧ (∀ w ∈ lw_all, w.before args s = true) ∧ meth.locks = false ∧ meth.name = y.name ∧ rr_vm G s ∧ rr_st G s s.heap ∧ G.2.1 ≤ s.heap.size
/-- the locals as an association list -/
def rr_as (G : rr_G) : Nat → List (Option rr_V) → List (Nat × Value)
  | _, [] => []
  | i, none :: l => rr_as G (i + 1) l
  | i, some v :: l => (i, rr_g G v) :: rr_as G (i + 1) l
def rr_nj : Option rr_V → Bool
  | some (.inr (.inl _)) => false
  | _ => true
def rr_L (G : rr_G) (ls : List (Option rr_V)) (nL : Nat) (la : Array Slot) : Prop := lv_has la nL (rr_as G 0 ls) ∧ ls.length = nL ∧ ls.all rr_nj = true
/-- a plain end -/
def rr_N (G : rr_G) (mc ms : Nat) (Post : Option rr_V → rr_H → Nat → Prop) (below : List Frame) (args : Array Value) (s : State) : State → Prop := MQ below (rr_Q G Post) args s mc ms (rr_A G)
/-- from here the method ends as Q says -/
def rr_R (G : rr_G) (y : MethodName) (cc : ByteArray) (nL : Nat) (ret : Option FieldType) (d mc ms : Nat) (Q : List Frame → Array Value → State → State → Prop) (pc : Nat) (ls : List (Option rr_V)) (st : List rr_V) (h : rr_H) (nx cu su : Nat) : Prop :=
  ∀ (p : Program) (e : Env) (s : State) (m : MethodId) (args : Array Value) (below : List Frame) (meth : Method) (c : Code) (H : Heap) (locs : List Loc) (la : Array Slot),
    rr_C G y cc nL ret p s m args meth c → rr_rel G h nx H → va_S (rr_A G) s.heap H locs → rr_L G ls nL la →
    W p G.1.1 e (rr_rm d mc ms) s m args below meth c H locs cu su (Q below args s) (F0 m pc la (st.map (rr_g G)))
/-! locals -/
theorem rr_as_mem (G : rr_G) (ls : List (Option rr_V)) : ∀ (i : Nat) (q : Nat × Value), q ∈ rr_as G i ls ↔ ∃ (j : Nat) (v : rr_V), ls[j]? = some (some v) ∧ q = (i + j, rr_g G v) := by
  induction ls with
  | nil => intro i q; simp [rr_as]
  | cons a l ih =>
    intro i q
    constructor
    · intro hq
      cases a with
      | none =>
        obtain ⟨j, v, h1, h2⟩ := (ih (i + 1) q).mp hq
        exact ⟨j + 1, v, by simpa using h1, by rw [h2]; congr 1; omega⟩
      | some w =>
        rcases List.mem_cons.mp hq with e | hq
        · exact ⟨0, w, rfl, e⟩
        · obtain ⟨j, v, h1, h2⟩ := (ih (i + 1) q).mp hq
          exact ⟨j + 1, v, by simpa using h1, by rw [h2]; congr 1; omega⟩
    · rintro ⟨j, v, h1, h2⟩
      cases j with
      | zero =>
        simp at h1
        subst h1
        rw [h2]
        exact List.mem_cons_self
      | succ j =>
        have h3 : q ∈ rr_as G (i + 1) l := (ih (i + 1) q).mpr ⟨j, v, by simpa using h1, by rw [h2]; congr 1; omega⟩
        cases a with
        | none => exact h3
        | some w => exact List.mem_cons_of_mem _ h3
theorem rr_cat (G : rr_G) (v : rr_V) (h : rr_nj (some v) = true) : (rr_g G v).category = 1 := by
  rcases v with z | z | r
  · rfl
  · simp [rr_nj] at h
  · cases r <;> rfl
theorem rr_L.at {G : rr_G} {ls : List (Option rr_V)} {nL : Nat} {la : Array Slot} (h : rr_L G ls nL la) {i : Nat} {v : rr_V} (hi : ls[i]? = some (some v)) : la[i]? = some (.val (rr_g G v)) := by
  have := h.1.2.2 (i, rr_g G v) ((rr_as_mem G ls 0 _).mpr ⟨i, v, hi, by simp⟩)
  exact this
theorem rr_has_mono {la : Array Slot} {nL : Nat} {l l' : List (Nat × Value)} (h : lv_has la nL l) (hs : ∀ q ∈ l', q ∈ l) : lv_has la nL l' := ⟨h.1, h.2.1, fun q hq => h.2.2 q (hs q hq)⟩
theorem rr_L.set {G : rr_G} {ls : List (Option rr_V)} {nL : Nat} {la la' : Array Slot} {i : Nat} {v : rr_V} (h : rr_L G ls nL la) (hv : rr_nj (some v) = true)
    (h' : lv_has la' nL ((i, rr_g G v) :: (rr_as G 0 ls).filter (fun q => !(q.1 == i) && !(q.1 + 1 == i && q.2.category == 2)))) : rr_L G (ls.set i (some v)) nL la' := by
  obtain ⟨-, h2, h3⟩ := h
  refine ⟨rr_has_mono h' ?_, by rw [List.length_set]; exact h2, ?_⟩
  · intro q hq
    obtain ⟨j, w, e1, e2⟩ := (rr_as_mem G _ 0 q).mp hq
    rw [List.getElem?_set] at e1
    by_cases hj : i = j
    · subst hj
      simp only [if_true] at e1
      split at e1
      · cases e1
        rw [e2]
        simp
      · cases e1
    · rw [if_neg hj] at e1
      refine List.mem_cons_of_mem _ (List.mem_filter.mpr ⟨(rr_as_mem G _ 0 q).mpr ⟨j, w, e1, e2⟩, ?_⟩)
      have hw : rr_nj (some w) = true := List.all_eq_true.mp h3 _ (List.mem_of_getElem? e1)
      have hc := rr_cat G w hw
      subst e2
      simp only [Nat.zero_add]
      have : (j == i) = false := by simpa using fun q => hj q.symm
      rw [this, hc]
      simp
  · rw [List.all_eq_true]
    intro x hx
    rcases List.mem_or_eq_of_mem_set hx with q | q
    · exact List.all_eq_true.mp h3 x q
    · rw [q]; exact hv
/-- fewer locals known -/
def rr_le : List (Option rr_V) → List (Option rr_V) → Prop
  | [], [] => True
  | a :: l, b :: k => (a = none ∨ a = b) ∧ rr_le l k
  | _, _ => False
theorem rr_le_len {l k : List (Option rr_V)} (h : rr_le l k) : l.length = k.length := by
  induction l generalizing k with
  | nil => cases k with
    | nil => rfl
    | cons => exact h.elim
  | cons a l ih => cases k with
    | nil => exact h.elim
    | cons b k => simp [ih h.2]
theorem rr_le_at {l k : List (Option rr_V)} (h : rr_le l k) {j : Nat} {v : rr_V} (e : l[j]? = some (some v)) : k[j]? = some (some v) := by
  induction l generalizing k j with
  | nil => simp at e
  | cons a l ih => cases k with
    | nil => exact h.elim
    | cons b k => cases j with
      | zero =>
        simp at e
        rcases h.1 with q | q
        · rw [q] at e; cases e
        · simp [← q, e]
      | succ j => simpa using ih h.2 (by simpa using e)
theorem rr_L.sub {G : rr_G} {ls ls' : List (Option rr_V)} {nL : Nat} {la : Array Slot} (h : rr_L G ls nL la) (hs : rr_le ls' ls) : rr_L G ls' nL la := by
  obtain ⟨h1, h2, h3⟩ := h
  refine ⟨rr_has_mono h1 ?_, by rw [rr_le_len hs]; exact h2, ?_⟩
  · intro q hq
    obtain ⟨j, w, e1, e2⟩ := (rr_as_mem G _ 0 q).mp hq
    exact (rr_as_mem G _ 0 q).mpr ⟨j, w, rr_le_at hs e1, e2⟩
  · rw [List.all_eq_true]
    intro x hx
    obtain ⟨j, hj⟩ := List.getElem?_of_mem hx
    cases x with
    | none => rfl
    | some v => exact List.all_eq_true.mp h3 _ (List.mem_of_getElem? (rr_le_at hs hj))
/-! entry -/
theorem rr_sl_eq (G : rr_G) (as : List rr_V) (h : (as.map some).all rr_nj = true) : lg_sl (as.map (rr_g G)) = (as.map (rr_g G)).map Slot.val := by
  induction as with
  | nil => rfl
  | cons a l ih =>
    simp only [List.map_cons, List.all_cons, Bool.and_eq_true] at h
    have hc := rr_cat G a h.1
    have := ih h.2
    simp only [List.map_cons, lg_sl, List.flatMap_cons] at this ⊢
    rw [this]
    simp [hc]
theorem rr_args (G : rr_G) (as : List rr_V) (h : (as.map some).all rr_nj = true) : ∀ (i n : Nat), lv_args i (as.map (rr_g G)) = rr_as G i (as.map some ++ List.replicate n none) := by
  induction as with
  | nil =>
    intro i n
    induction n generalizing i with
    | zero => rfl
    | succ n ih =>
      show lv_args i [] = rr_as G i (none :: List.replicate n none)
      rw [show rr_as G i (none :: List.replicate n none) = rr_as G (i + 1) (List.replicate n none) from rfl]
      have := ih (i + 1)
      simpa [lv_args] using this
  | cons a l ih =>
    intro i n
    simp only [List.map_cons, List.all_cons, Bool.and_eq_true] at h
    have hc := rr_cat G a h.1
    show lv_args i (rr_g G a :: l.map (rr_g G)) = (i, rr_g G a) :: rr_as G (i + 1) (l.map some ++ List.replicate n none)
    rw [← ih h.2 (i + 1) n]
    simp [lv_args, hc]
