/-! the judgement J: the machine at pc, with locals lv, operand stack st, pure heap h, k cells and n slots used -/
set_option maxRecDepth 100000
/-- words that don't ride in the lists, by their kinds -/
def twk (w : Cond) : Bool := match w with
  | .castable _ _ => true
  | .declares _ => true
  | .fieldLinkNest _ _ _ _ _ _ => true
  | .methodLinkNest _ _ _ _ => true
  | .arrayOver (.object _) => true
  | _ => false
def TW (U : State) : Prop := ∀ w ∈ lw_tbl, twk w = true → w.before #[] U = true
theorem TW.warm {s U : State} (hW : s.WarmedH U.vm) (h : TW s) : TW U := by
  intro w hw hk
  have h1 := h w hw hk
  unfold twk at hk
  split at hk
  · exact va_Nw.warmC hW h1
  · exact va_Nw.warmD hW h1
  · exact va_Nw.warmF hW h1
  · exact va_Nw.warmM hW h1
  · exact va_AO.moved hW.alike h1
  · cases hk
/-- calls through an interface: the receiver's class, the interface's method, the method itself -/
def fwl : List (String × MethodName × MethodName) := [
  ("LeadRaces$Runner", ⟨"LeadRaces$Racing", "isAhead", "(Ljava/lang/Object;)Z"⟩, ⟨"LeadRaces$Runner", "isAhead", "(Ljava/lang/Object;)Z"⟩),
  ("LeadRaces$Runner", ⟨"LeadRaces$Racing", "lasts", "(Ljava/lang/Object;)J"⟩, ⟨"LeadRaces$Runner", "lasts", "(Ljava/lang/Object;)J"⟩),
  ("java/util/ArrayList$Itr", ⟨"java/util/Iterator", "hasNext", "()Z"⟩, ⟨"java/util/ArrayList$Itr", "hasNext", "()Z"⟩),
  ("java/util/ArrayList$Itr", ⟨"java/util/Iterator", "next", "()Ljava/lang/Object;"⟩, ⟨"java/util/ArrayList$Itr", "next", "()Ljava/lang/Object;"⟩),
  ("java/util/LinkedList$ListItr", ⟨"java/util/Iterator", "hasNext", "()Z"⟩, ⟨"java/util/LinkedList$ListItr", "hasNext", "()Z"⟩),
  ("java/util/LinkedList$ListItr", ⟨"java/util/Iterator", "next", "()Ljava/lang/Object;"⟩, ⟨"java/util/LinkedList$ListItr", "next", "()Ljava/lang/Object;"⟩),
  ("java/lang/String", ⟨"java/lang/CharSequence", "length", "()I"⟩, ⟨"java/lang/String", "length", "()I"⟩),
  ("java/lang/String", ⟨"java/lang/CharSequence", "charAt", "(I)C"⟩, ⟨"java/lang/String", "charAt", "(I)C"⟩),
  ("java/lang/String", ⟨"java/lang/CharSequence", "subSequence", "(II)Ljava/lang/CharSequence;"⟩, ⟨"java/lang/String", "subSequence", "(II)Ljava/lang/CharSequence;"⟩),
  ("java/lang/String", ⟨"java/lang/CharSequence", "toString", "()Ljava/lang/String;"⟩, ⟨"java/lang/String", "toString", "()Ljava/lang/String;"⟩)]
theorem fwl_mh : ∀ q ∈ fwl, q.2.1.cls ≠ "java/lang/invoke/MethodHandle" ∧ q.2.1.cls ≠ "java/lang/invoke/VarHandle" := by decide +kernel
def FW (U : State) : Prop := ∀ q ∈ fwl, va_Fw q.1 q.2.1 q.2.2 U
theorem FW.warm {s U : State} (hW : s.WarmedH U.vm) (h : FW s) : FW U := fun q hq => va_Fw.moved (fwl_mh q hq) hW.alike (h q hq)
/-- the String constants: class, entry, text, hash, is the hash 0, bytes -/
def strs : List (String × Nat × String × Int32 × Int32 × List Int32) := [
  ("LeadRaces$Refusal", 1, "refusal", 1085547100, 0, [114, 101, 102, 117, 115, 97, 108]),
  ("LeadRaces$Reader", 124, ";", 59, 0, [59]),
  ("LeadRaces$Fault", 3, "fault", 97204770, 0, [102, 97, 117, 108, 116]),
  ("java/lang/StringLatin1", 151, "", 0, 1, []),
  ("LeadRaces$Reader", 77, "go", 3304, 0, [103, 111]),
  ("LeadRaces$Reader", 83, "wait", 3641717, 0, [119, 97, 105, 116]),
  ("LeadRaces$Reader", 85, "speed", 109641799, 0, [115, 112, 101, 101, 100]),
  ("LeadRaces$Reader", 87, "jump", 3273774, 0, [106, 117, 109, 112]),
  ("LeadRaces$Reader", 89, "come", 3059460, 0, [99, 111, 109, 101])]
/-- addresses of the String constants, of their bytes, of ArrayList's empty array -/
def kA (D : va_G) (j : Nat) : Nat := D.2 1000 j
def kB (D : va_G) (j : Nat) : Nat := D.2 1001 j
def k0 (D : va_G) : Nat := D.2 1002 0
def kby (l : List Int32) : Nat → Int32 := fun j => l.getD j 0
/-- the cells that are never written -/
def Kr (D : va_G) (a : Nat) (e : va_E) : Prop :=
  (∃ (j : Nat) (q : String × Nat × String × Int32 × Int32 × List Int32), strs[j]? = some q ∧ a = kA D j ∧ e = eo 7 [.ref (kB D j), .int 0, .int q.2.2.2.1, .int q.2.2.2.2.1]) ∨
  (∃ (j : Nat) (q : String × Nat × String × Int32 × Int32 × List Int32), strs[j]? = some q ∧ a = kB D j ∧ e = eB q.2.2.2.2.2.length (kby q.2.2.2.2.2)) ∨
  (a = k0 D ∧ e = eO 0 (fun _ => none))
def KW (D : va_G) (A : Nat → Prop) (H : Heap) : Prop := ∀ a e, Kr D a e → va_at D vwCl (a, tr D e) H ∧ ¬ A a
theorem KW.kept {D : va_G} {A : Nat → Prop} {H H1 : Heap} (h : KW D A H) (hq : ∀ a : Nat, a < H.size → ¬ A a → H1[a]? = H[a]?) : KW D A H1 := fun a e hk => ⟨(h a e hk).1.kept (hq a (h a e hk).1.lt (h a e hk).2), (h a e hk).2⟩
theorem KW.narrow {D : va_G} {A B : Nat → Prop} {H : Heap} (h : KW D A H) (hAB : ∀ q, B q → A q) : KW D B H := fun a e hk => ⟨(h a e hk).1, fun z => (h a e hk).2 (hAB a z)⟩
/-- the String constants are apart -/
def KD (D : va_G) : Prop := ∀ i j, i < 9 → j < 9 → kA D i = kA D j → i = j
def SR (D : va_G) (U : State) : Prop := ∀ j q, strs[j]? = some q → vk_R q.1 q.2.1 q.2.2.1 (kA D j) U
theorem SR.warm {D : va_G} {s U : State} (hW : s.WarmedH U.vm) (h : SR D s) : SR D U := fun j q hj => (h j q hj).warm hW
/-- the statics -/
def SW (D : va_G) (A : Nat → Prop) (U : State) (H : Heap) : Prop :=
  va_Z "java/util/ArrayList" "DEFAULTCAPACITY_EMPTY_ELEMENTDATA" "[Ljava/lang/Object;" (.ref (k0 D)) A U H ∧ va_Z "java/lang/String" "COMPACT_STRINGS" "Z" (.int 1) A U H ∧ va_Z "java/util/BitSet" "$assertionsDisabled" "Z" (.int 1) A U H ∧
  vx_Zq Bundle.tN "UNASSIGNED_STACK" Bundle.steD A U H ∧ vx_Zq Bundle.tN "SUPPRESSED_SENTINEL" Bundle.listD A U H ∧ va_Zq "jdk/internal/util/Preconditions" "SIOOBE_FORMATTER" "Ljava/util/function/BiFunction;" A U H
theorem SW.moved {D : va_G} {A : Nat → Prop} {s U : State} {H : Heap} (hv : s.vm.Alike U.vm) (h : SW D A s H) : SW D A U H := ⟨va_Z.moved hv h.1, va_Z.moved hv h.2.1, va_Z.moved hv h.2.2.1, vx_Zq.moved hv h.2.2.2.1, vx_Zq.moved hv h.2.2.2.2.1, va_Zq.moved hv h.2.2.2.2.2⟩
theorem SW.kept {D : va_G} {A : Nat → Prop} {U : State} {H H1 : Heap} (h : SW D A U H) (hq : ∀ a : Nat, a < H.size → ¬ A a → H1[a]? = H[a]?) : SW D A U H1 := ⟨va_Z.kept h.1 hq, va_Z.kept h.2.1 hq, va_Z.kept h.2.2.1 hq, vx_Zq.kept h.2.2.2.1 hq, vx_Zq.kept h.2.2.2.2.1 hq, va_Zq.kept h.2.2.2.2.2 hq⟩
theorem SW.narrow {D : va_G} {A B : Nat → Prop} {U : State} {H : Heap} (h : SW D A U H) (hAB : ∀ q, B q → A q) : SW D B U H := ⟨va_Z.narrow h.1 hAB, va_Z.narrow h.2.1 hAB, va_Z.narrow h.2.2.1 hAB, vx_Zq.narrow h.2.2.2.1 hAB, vx_Zq.narrow h.2.2.2.2.1 hAB, va_Zq.narrow h.2.2.2.2.2 hAB⟩
/-- the lambda sites: method, pc, entry, how many ints are captured, the class and name of the body -/
def lsT : List (MethodName × Nat × Nat × Nat × String × String) := [
  (⟨"LeadRaces", "come", "(III)I"⟩, 4, 70, 3, "LeadRaces", "lambda$come$0"),
  (⟨"LeadRaces", "go", "(I)I"⟩, 2, 77, 1, "LeadRaces", "lambda$go$1"),
  (⟨"LeadRaces", "speed", "(II)I"⟩, 3, 80, 2, "LeadRaces", "lambda$speed$2"),
  (⟨"LeadRaces", "jump", "(II)I"⟩, 3, 83, 2, "LeadRaces", "lambda$jump$3"),
  (⟨"LeadRaces", "pause", "(I)I"⟩, 2, 84, 1, "LeadRaces", "lambda$pause$4"),
  (⟨"LeadRaces", "runnerOf", "(II)I"⟩, 3, 112, 2, "LeadRaces", "lambda$runnerOf$5"),
  (⟨"LeadRaces$Reader", "deed", "(Ljava/util/LinkedList;)LLeadRaces$Deed;"⟩, 246, 105, 3, "LeadRaces$Reader", "lambda$deed$0"),
  (⟨"LeadRaces$Reader", "deed", "(Ljava/util/LinkedList;)LLeadRaces$Deed;"⟩, 256, 109, 1, "LeadRaces$Reader", "lambda$deed$1"),
  (⟨"LeadRaces$Reader", "deed", "(Ljava/util/LinkedList;)LLeadRaces$Deed;"⟩, 268, 112, 2, "LeadRaces$Reader", "lambda$deed$2"),
  (⟨"LeadRaces$Reader", "deed", "(Ljava/util/LinkedList;)LLeadRaces$Deed;"⟩, 280, 115, 2, "LeadRaces$Reader", "lambda$deed$3"),
  (⟨"LeadRaces$Reader", "deed", "(Ljava/util/LinkedList;)LLeadRaces$Deed;"⟩, 290, 116, 1, "LeadRaces$Reader", "lambda$deed$4")]
def shp (n : Nat) (C nm : String) : Lambda.Shape :=
  { iface := "LeadRaces$Deed", name := "does", sam := { parameters := [.object "LeadRaces$Track"], returnType := some .int }, captured := List.replicate n .int, kind := 6, implClass := C, implName := nm, implDesc := { parameters := List.replicate n .int ++ [.object "LeadRaces$Track"], returnType := some .int }, implItf := false, inst := { parameters := [.object "LeadRaces$Track"], returnType := some .int } }
/-- a site is linked: its class is c -/
def Lsi (x : MethodName) (pc index : Nat) (σ : Lambda.Shape) (c : ClassId) (U : State) : Prop :=
  ∃ (m : MethodId) (k : Class) (cf : ClassFile) (i0 p0 : Nat), U.methodNamed? x = some m ∧ U.vm.classes[m.cls]? = some k ∧ k.cf = some cf ∧ Lambda.shapeOf? cf index = some σ ∧ (k.callSites.find? fun y => y.1 == m.idx && y.2.1 == pc) = some (i0, p0, .makes c) ∧ Lambda.isMade { classPath := fun _ => none } U.vm m.cls σ c = true ∧ U.lambdaCallable σ c = true
theorem Lsi.warm {x : MethodName} {pc index : Nat} {σ : Lambda.Shape} {c : ClassId} {s U : State} (hW : s.WarmedH U.vm) (h : Lsi x pc index σ c s) : Lsi x pc index σ c U := by
  obtain ⟨m, k, cf, i0, p0, hm, hk, hcf, hsh, hfind, hmade, hcall⟩ := h
  obtain ⟨k', hk', he⟩ := hW.alike.2.2 _ _ hk
  refine ⟨m, k', cf, i0, p0, ?_, hk', by rw [he]; exact hcf, hsh, by rw [he]; exact hfind, Lambda.isMade_warmer hW hmade, ?_⟩
  · have := State.methodNamed?_setVm (s := s) hW.alike x
    rw [hm] at this
    exact this
  · have hA := hW.alike
    simp only [State.lambdaCallable, hA.findClass, hA.assignable, hA.superclasses, hA.declaredIn] at hcall ⊢
    exact hcall
/-- the interface of the lambdas -/
def yDeed : MethodName := ⟨"LeadRaces$Deed", "does", "(LLeadRaces$Track;)I"⟩
def LW (D : va_G) (U : State) : Prop := (∀ j q, lsT[j]? = some q → Lsi q.1 q.2.1 q.2.2.1 (shp q.2.2.2.1 q.2.2.2.2.1 q.2.2.2.2.2) (D.1 (300 + j)) U) ∧ (Cond.declares yDeed).before #[] U = true ∧ (Cond.interfaceMethod "LeadRaces$Deed" "LeadRaces$Deed" "does" "(LLeadRaces$Track;)I").before #[] U = true
theorem LW.warm {D : va_G} {s U : State} (hW : s.WarmedH U.vm) (h : LW D s) : LW D U := by
  refine ⟨fun j q hj => (h.1 j q hj).warm hW, ?_⟩
  obtain ⟨-, h1, h2⟩ := h
  obtain ⟨r, meth, hn, -⟩ := Cond.declares_spec h1
  have tr : ∀ {c : Cond}, c.onTables = true → c.before #[] (s.setVm U.vm) = true → c.before #[] U = true := by
    intro c hc h
    have e := Cond.onTables_vm (A := #[]) (A' := #[]) (U := s) (U' := U) U.vm c hc
    have hU : U.setVm U.vm = U := rfl
    rw [hU] at e
    rw [← e]
    exact h
  exact ⟨tr rfl (by rw [Cond.declares_setVm hW.alike]; exact h1), tr rfl (by rw [Cond.interfaceMethod_setVm hW.alike (r := r) hn (by decide)]; exact h2)⟩
/-- what of the start's tables and statics a method may count on: nothing of it is a cell of A -/
def Ev (D : va_G) (A : Nat → Prop) (U : State) (H : Heap) : Prop := TW U ∧ FW U ∧ SR D U ∧ LW D U ∧ KD D ∧ KW D A H ∧ SW D A U H
theorem Ev.warm {D : va_G} {A : Nat → Prop} {s U : State} {H : Heap} (hW : s.WarmedH U.vm) (h : Ev D A s H) : Ev D A U H := by
  obtain ⟨h1, h2, h3, h4, h5, h6, h7⟩ := h
  exact ⟨h1.warm hW, h2.warm hW, h3.warm hW, h4.warm hW, h5, h6, h7.moved hW.alike⟩
theorem Ev.kept {D : va_G} {A : Nat → Prop} {U : State} {H H1 : Heap} (h : Ev D A U H) (hq : ∀ a : Nat, a < H.size → ¬ A a → H1[a]? = H[a]?) : Ev D A U H1 := by
  obtain ⟨h1, h2, h3, h4, h5, h6, h7⟩ := h
  exact ⟨h1, h2, h3, h4, h5, h6.kept hq, h7.kept hq⟩
theorem Ev.narrow {D : va_G} {A B : Nat → Prop} {U : State} {H : Heap} (h : Ev D A U H) (hAB : ∀ q, B q → A q) : Ev D B U H := by
  obtain ⟨h1, h2, h3, h4, h5, h6, h7⟩ := h
  exact ⟨h1, h2, h3, h4, h5, h6.narrow hAB, h7.narrow hAB⟩
theorem Ev.tw {D : va_G} {A : Nat → Prop} {U : State} {H : Heap} (h : Ev D A U H) : TW U := h.1
abbrev Cxt : Type := Program × Launch × Env × Room × State × MethodId × Array Value × List Frame × Method × Code × va_G × (Nat → Prop) × (State → Prop)
def J (Γ : Cxt) (h : PH) (k n pc : Nat) (lv : List (Nat × Value)) (st : List Value) : Prop :=
  match Γ with
  | (p, l, e, R, s, m, args, below, meth, c, D, A, Q) => ∀ (H : Heap) (locs : List Loc) (ls : Array Slot), hw D A h H → va_S A s.heap H locs → lv_has ls c.maxLocals lv → W p l e R s m args below meth c H locs k n Q (F0 m pc ls st)
def Cx (l : Launch) (D : va_G) (cc : ByteArray) (own : String) (nL : Nat) (rm : Room) (Γ : Cxt) : Prop :=
  match Γ with
  | (p, l', _, R, s, m, args, _, meth, c, D', A, _) => l' = l ∧ D' = D ∧ R = rm ∧ p.tables.exec = Jvm.exec ∧ c.code = cc ∧ c.maxLocals = nL ∧ s.vm.findClass own = some m.cls ∧ (∀ w ∈ lw_all, w.before args s = true) ∧ va_K D vwCl (tys6 D) s ∧ (∀ q, s.heap.size ≤ q → A q) ∧ meth.locks = false ∧ Ev D A s s.heap
def Mn (nm : String) (Γ : Cxt) : Prop := match Γ with
  | (_, _, _, _, _, _, _, _, meth, _, _, _, _) => meth.name = nm
def dm (h : PH) (sz : Nat) : Nat → Prop := fun q => h q ≠ none ∨ sz ≤ q
def Qp (D : va_G) (A : Nat → Prop) (Post : Option Value → PH → Prop) : Array Value → State → Outcome → State → Prop := fun _ st oc t => ∃ (v : Option Value) (h' : PH), oc = .returned v ∧ Post v h' ∧ hw D A h' t.heap ∧ va_F A st t
/-- a return with an answer and a heap of Post is an end that is owed -/
def Rt (ret : Option FieldType) (Post : Option Value → PH → Prop) (Γ : Cxt) : Prop := match Γ with
  | (p, l, e, R, s, m, args, below, meth, c, D, A, Q) => meth.sig.returnType = ret ∧ ∀ (H : Heap) (locs : List Loc) (g : JFrame), W p l e R s m args below meth c H locs R.cells R.slots (MQ below (Qp D A Post) args s R.cells R.slots A) g → W p l e R s m args below meth c H locs R.cells R.slots Q g
/-- the start of a contract: the pure heap h stands, the tables are as they are -/
def Pv (D : va_G) (h : PH) (sz : Nat) (U : State) : Prop := U.heap.size = sz ∧ hw D (fun _ => True) h U.heap ∧ va_K D vwCl (tys6 D) U ∧ Ev D (dm h sz) U U.heap
/-- A CONTRACT: called with av at the pure heap h, y returns v and leaves h' with Post v h' -/
def Ct (l : Launch) (D : va_G) (y : MethodName) (cc : ByteArray) (nL : Nat) (ret : Option FieldType) (rm : Room) (av : List Value) (h : PH) (Post : Option Value → PH → Prop) : Prop :=
  ∀ sz : Nat, Met l y (ws_ y cc nL ret) rm (va_Pc av (Pv D h sz)) (Qp D (dm h sz) Post) rm.cells rm.slots (dm h sz)
def At (cc : ByteArray) (pc : Nat) (i : Instr) (len nx : Nat) : Prop := decode cc pc = .ok (i, len) ∧ pc + len = nx
/-- a method's decoded instructions: pc, instruction, length, next pc -/
def dtab (cc : ByteArray) (L : List (Nat × Instr × Nat × Nat)) : Prop := ∀ q ∈ L, decode cc q.1 = .ok (q.2.1, q.2.2.1) ∧ q.1 + q.2.2.1 = q.2.2.2
theorem dt {cc : ByteArray} {L : List (Nat × Instr × Nat × Nat)} (h : dtab cc L) (i : Nat) {pc : Nat} {ins : Instr} {len nx : Nat} (e : L[i]? = some (pc, ins, len, nx)) : At cc pc ins len nx := by
  have h1 : decode cc pc = .ok (ins, len) ∧ pc + len = nx := h (pc, ins, len, nx) (List.mem_of_getElem? e)
  exact h1
theorem hw.weaken {D : va_G} {A B : Nat → Prop} {h : PH} {H : Heap} (hh : hw D A h H) (hAB : ∀ q, A q → B q) : hw D B h H := fun a e ha => ⟨(hh a e ha).1, hAB a (hh a e ha).2⟩
theorem hw.self {D : va_G} {A : Nat → Prop} {h : PH} {H : Heap} {sz : Nat} (hh : hw D A h H) : hw D (dm h sz) h H := fun a e ha => ⟨(hh a e ha).1, Or.inl (by rw [ha]; exact fun z => by cases z)⟩
theorem dm_in {D : va_G} {A : Nat → Prop} {h : PH} {H H0 : Heap} (hh : hw D A h H) (hA : ∀ q, H0.size ≤ q → A q) (hs : H0.size ≤ H.size) : ∀ q, dm h H.size q → A q := by
  intro q hq
  rcases hq with hq | hq
  · cases hx : h q with
    | none => exact absurd hx hq
    | some e => exact (hh q e hx).2
  · exact hA q (Nat.le_trans hs hq)
theorem Ct.of {l : Launch} {D : va_G} {y : MethodName} {cc : ByteArray} {nL : Nat} {ret : Option FieldType} {rm : Room} {av : List Value} {h : PH} {Post : Option Value → PH → Prop} (hy : plainName y.cls = true) (hlen : Nat.ble (lg_sl av).length nL = true)
    (body : ∀ Γ : Cxt, Cx l D cc y.cls nL rm Γ → Rt ret Post Γ → Mn y.name Γ → J Γ h 0 0 0 (lv_args 0 av) []) : Ct l D y cc nL ret rm av h Post := by
  intro sz
  refine Met.ofW (cc := cc) (maxL := nL) (ret := ret) hy rfl ?_
  intro p e s m args below meth c s₁ B hml hv
  obtain ⟨rfl, rfl, hP, hK, hE⟩ := hv
  have hts := atoms_spec (ws := ws_ y cc nL ret) B.pre
  have hts : ∀ w ∈ lw_all, w.before _ s = true := fun w h => hts w (List.mem_cons_of_mem _ h)
  have hown : s.vm.findClass y.cls = some m.cls := findClass_of_methodNamed B.named
  have hin : meth.name = y.name := (name_of_methodNamed B.named B.method).1
  have hl := lv_entry av (n := nL) (Nat.le_of_ble_eq_true hlen)
  have hb := body (p, l, e, (headSpec (ws_ y cc nL ret) rm).room, s, m, av.toArray, below, meth, c, D, dm h s.heap.size, MQ below (Qp D (dm h s.heap.size) Post) av.toArray s rm.cells rm.slots (dm h s.heap.size))
    ⟨rfl, rfl, rfl, B.exec, B.bytes, hml, hown, hts, hK, fun q hq => Or.inr hq, B.notSynchronized, hE⟩ ⟨B.returns, fun H locs g k => k⟩ hin
  rw [lg_entry_eq]
  exact hb s.heap [] _ hP.self va_S.rf (by rw [hml]; exact hl)
