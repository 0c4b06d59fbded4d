/-! printed by gen/compw.py -/
set_option maxRecDepth 100000
theorem q87 : (Jvm.Cond.initialized "java/lang/Throwable") ∈ lw_all := lw_g (lw_at lw_m1 19 rfl) rfl
theorem q400 : (Jvm.Cond.methodLink "java/lang/Throwable" (1 : Nat) ({ cls := "java/lang/Object", name := "<init>", desc := "()V" } : Jvm.MethodName)) ∈ lw_all := lw_g (lw_at lw_m2 92 rfl) rfl
theorem q401 : (Jvm.Cond.fieldLink "java/lang/Throwable" (13 : Nat) "java/lang/Throwable" "UNASSIGNED_STACK" "[Ljava/lang/StackTraceElement;") ∈ lw_all := lw_g (lw_at lw_m2 93 rfl) rfl
theorem q403 : (Jvm.Cond.fieldLink "java/lang/Throwable" (20 : Nat) "java/lang/Throwable" "SUPPRESSED_SENTINEL" "Ljava/util/List;") ∈ lw_all := lw_g (lw_at lw_m2 95 rfl) rfl
theorem q405 : (Jvm.Cond.methodLink "java/lang/Throwable" (27 : Nat) ({ cls := "java/lang/Throwable", name := "fillInStackTrace", desc := "()Ljava/lang/Throwable;" } : Jvm.MethodName)) ∈ lw_all := lw_g (lw_at lw_m2 97 rfl) rfl
theorem q406 : (Jvm.Cond.instanceMethod ({ cls := "java/lang/Throwable", name := "fillInStackTrace", desc := "()Ljava/lang/Throwable;" } : Jvm.MethodName)) ∈ lw_all := lw_g (lw_at lw_m2 98 rfl) rfl
theorem q407 : (Jvm.Cond.sameMethod "java/lang/Throwable" "java/lang/Throwable" "fillInStackTrace" "()Ljava/lang/Throwable;") ∈ lw_all := lw_g (lw_at lw_m2 99 rfl) rfl
theorem q408 : (Jvm.Cond.selects "LeadRaces$Fault" ({ cls := "java/lang/Throwable", name := "fillInStackTrace", desc := "()Ljava/lang/Throwable;" } : Jvm.MethodName) ({ cls := "java/lang/Throwable", name := "fillInStackTrace", desc := "()Ljava/lang/Throwable;" } : Jvm.MethodName)) ∈ lw_all := lw_g (lw_at lw_m2 100 rfl) rfl
theorem q409 : (Jvm.Cond.selects "LeadRaces$Refusal" ({ cls := "java/lang/Throwable", name := "fillInStackTrace", desc := "()Ljava/lang/Throwable;" } : Jvm.MethodName) ({ cls := "java/lang/Throwable", name := "fillInStackTrace", desc := "()Ljava/lang/Throwable;" } : Jvm.MethodName)) ∈ lw_all := lw_g (lw_at lw_m2 101 rfl) rfl
theorem q412 : (Jvm.Cond.codeSync ({ cls := "java/lang/Throwable", name := "fillInStackTrace", desc := "()Ljava/lang/Throwable;" } : Jvm.MethodName) prog_35_method_18_code (1 : Nat) (Option.some (Jvm.ClassFile.FieldType.object "java/lang/Throwable"))) ∈ lw_all := lw_g (lw_at lw_m2 104 rfl) rfl
theorem q413 : (Jvm.Cond.methodLink "java/lang/Throwable" (202 : Nat) ({ cls := "java/lang/Throwable", name := "fillInStackTrace", desc := "(I)Ljava/lang/Throwable;" } : Jvm.MethodName)) ∈ lw_all := lw_g (lw_at lw_m2 105 rfl) rfl
theorem q415 : (Jvm.Cond.instanceMethod ({ cls := "java/lang/Throwable", name := "fillInStackTrace", desc := "(I)Ljava/lang/Throwable;" } : Jvm.MethodName)) ∈ lw_all := lw_g (lw_at lw_m2 107 rfl) rfl
theorem q417 : (Jvm.Cond.native ({ cls := "java/lang/Throwable", name := "fillInStackTrace", desc := "(I)Ljava/lang/Throwable;" } : Jvm.MethodName)) ∈ lw_all := lw_g (lw_at lw_m2 109 rfl) rfl
theorem q420 : (Jvm.Cond.fieldLink "java/lang/Throwable" (7 : Nat) "java/lang/Throwable" "cause" "Ljava/lang/Throwable;") ∈ lw_all := lw_g (lw_at lw_m2 112 rfl) rfl
theorem q421 : (Jvm.Cond.fieldLink "java/lang/Throwable" (17 : Nat) "java/lang/Throwable" "stackTrace" "[Ljava/lang/StackTraceElement;") ∈ lw_all := lw_g (lw_at lw_m2 113 rfl) rfl
theorem q422 : (Jvm.Cond.fieldLink "java/lang/Throwable" (24 : Nat) "java/lang/Throwable" "suppressedExceptions" "Ljava/util/List;") ∈ lw_all := lw_g (lw_at lw_m2 114 rfl) rfl
theorem q446 : (Jvm.Cond.lays "java/lang/Throwable" "java/lang/Throwable" "cause" "Ljava/lang/Throwable;") ∈ lw_all := lw_g (lw_at lw_m2 138 rfl) rfl
theorem q447 : (Jvm.Cond.lays "java/lang/Throwable" "java/lang/Throwable" "stackTrace" "[Ljava/lang/StackTraceElement;") ∈ lw_all := lw_g (lw_at lw_m2 139 rfl) rfl
theorem q448 : (Jvm.Cond.lays "java/lang/Throwable" "java/lang/Throwable" "suppressedExceptions" "Ljava/util/List;") ∈ lw_all := lw_g (lw_at lw_m2 140 rfl) rfl
theorem q449 : (Jvm.Cond.lays "java/lang/Throwable" "java/lang/Throwable" "detailMessage" "Ljava/lang/String;") ∈ lw_all := lw_g (lw_at lw_m2 141 rfl) rfl
theorem q450 : (Jvm.Cond.lays "java/lang/Throwable" "java/lang/Throwable" "backtrace" "Ljava/lang/Object;") ∈ lw_all := lw_g (lw_at lw_m2 142 rfl) rfl
theorem q451 : (Jvm.Cond.fieldLink "java/lang/Throwable" (198 : Nat) "java/lang/Throwable" "backtrace" "Ljava/lang/Object;") ∈ lw_all := lw_g (lw_at lw_m2 143 rfl) rfl
theorem q452 : (Jvm.Cond.superclass "java/lang/Throwable" "java/lang/Object") ∈ lw_all := lw_g (lw_at lw_m2 144 rfl) rfl
theorem q453 : (Jvm.Cond.instanceMethod ({ cls := "java/lang/Throwable", name := "<init>", desc := "()V" } : Jvm.MethodName)) ∈ lw_all := lw_g (lw_at lw_m2 145 rfl) rfl
theorem q454 : (Jvm.Cond.code ({ cls := "java/lang/Throwable", name := "<init>", desc := "()V" } : Jvm.MethodName) prog_35_method_1_code (1 : Nat) (Option.none : Option Jvm.ClassFile.FieldType)) ∈ lw_all := lw_g (lw_at lw_m2 146 rfl) rfl
theorem q463 : (Jvm.Cond.selects "LeadRaces$Refusal" ({ cls := "java/lang/Throwable", name := "fillInStackTrace", desc := "(I)Ljava/lang/Throwable;" } : Jvm.MethodName) ({ cls := "java/lang/Throwable", name := "fillInStackTrace", desc := "(I)Ljava/lang/Throwable;" } : Jvm.MethodName)) ∈ lw_all := lw_g (lw_at lw_m2 155 rfl) rfl
theorem q1572 : (Jvm.Cond.selects "LeadRaces$Fault" ({ cls := "java/lang/Throwable", name := "fillInStackTrace", desc := "(I)Ljava/lang/Throwable;" } : Jvm.MethodName) ({ cls := "java/lang/Throwable", name := "fillInStackTrace", desc := "(I)Ljava/lang/Throwable;" } : Jvm.MethodName)) ∈ lw_all := lw_g (lw_at lw_m7 64 rfl) rfl
/-- the words of Throwable -/
theorem thr_words {s : State} {args : Array Value} (hts : ∀ w ∈ lw_all, w.before args s = true) (lU : (Cond.laysStatic Bundle.tN "UNASSIGNED_STACK" Bundle.steD).before args s = true) (lN : (Cond.laysStatic Bundle.tN "SUPPRESSED_SENTINEL" Bundle.listD).before args s = true) : ∀ c ∈ Bundle.throwableAtoms, c.before args s = true := by
  intro c hc
  unfold Bundle.throwableAtoms at hc
  simp only [List.mem_cons, List.not_mem_nil, or_false] at hc
  rcases hc with rfl | rfl | rfl | rfl | rfl | rfl | rfl | rfl | rfl | rfl | rfl | rfl | rfl | rfl | rfl | rfl | rfl | rfl | rfl | rfl | rfl | rfl | rfl | rfl
  · exact hts _ q87
  · exact hts _ q452
  · exact hts _ q406
  · exact hts _ q412
  · exact hts _ q415
  · exact hts _ q417
  · exact hts _ q453
  · exact hts _ q454
  · exact hts _ q118
  · exact hts _ q119
  · exact hts _ q400
  · exact hts _ q405
  · exact hts _ q413
  · exact hts _ q420
  · exact hts _ q446
  · exact hts _ q421
  · exact hts _ q447
  · exact hts _ q422
  · exact hts _ q448
  · exact hts _ q401
  · exact lU
  · exact hts _ q403
  · exact lN
  · exact hts _ q449
/-- an inherited synchronized method is called (follows the kit's call of an inherited method) -/
theorem callVUy {p : Program} {l : Launch} {e : Env} {R : Room} {s : State} {m : MethodId} {args : Array Value} {below : List Frame} {meth : Method} {c : Code} {T : State} {locs : List Loc} {cells slots : Nat} (X : Stand p l e R s m args below meth c T locs cells slots) (hexec : p.tables.exec = Jvm.exec) {own C owner : String} {index : Nat} {x y : MethodName}
    (hown : s.vm.findClass own = some m.cls) (hlink : (Cond.methodLink own index x).before args s = true) (hsame : (Cond.sameMethod x.cls owner x.name x.desc).before args s = true)
    (hd0 : va_Decl s ⟨owner, x.name, x.desc⟩) (howner : owner ≠ "java/lang/invoke/MethodHandle" ∧ owner ≠ "java/lang/invoke/VarHandle")
    (hsel : (Cond.selects C x y).before args s = true) (hinst : (Cond.instanceMethod y).before args s = true)
    {W : Nat} {Pre : Pt → Array Value → Prop} {Post : Pt → Array Value → Option Value → Pt → Prop} (hK : Back l R p e below s args y 3 W Pre Post)
    {b : Addr} {cellB : Cell} (hcell : T.heap[b]? = some cellB) (hobj : cellB.vm.isStatics = false) (hcls : s.vm.findClass C = some cellB.cls)
    {g : JFrame} (hg : g.method = m) (hsize : g.locals.size = c.maxLocals) {argsL rest : List Value} (hlen : ∀ sig, parseMethodDescriptor x.desc = some sig → argsL.length = sig.parameters.length)
    (hstack : g.stack = argsL.reverse ++ .ref b :: rest) (hW : 2 * g.monitorRoom + (rest.map fun v => v.category).sum ≤ W) (hdg : decode c.code g.pc = .ok (.invokevirtual index, 3))
    (hpre : ∀ vm₁, s.WarmedH vm₁ → Pre ⟨T.setVm vm₁, locs, cells, slots⟩ (Value.ref b :: argsL).toArray) :
    ∃ (v : Option Value) (vm₁ : Vm) (B : Pt), s.WarmedH vm₁ ∧ Stand p l e R s m args below meth c B.U B.locs B.cells B.slots ∧ Post ⟨T.setVm vm₁, locs, cells, slots⟩ (Value.ref b :: argsL).toArray v B ∧
      ∀ target, Steps p.tables e below (B.U.setTop { g with pc := g.pc + 3, stack := v.toList ++ rest }) target → Steps p.tables e below (T.setTop g) target := by
  obtain ⟨r0, r, hn, hrm, hstR, hsigR⟩ := hd0
  obtain ⟨cn, ck, r1, hcn, hck, hni, hf, hn1⟩ := Cond.sameMethod_found hsame
  cases hn.symm.trans hn1
  obtain ⟨mk, methM, hnamed, hmethM, -, habM⟩ := Cond.instanceMethod_spec hinst
  obtain ⟨c2, r2, m2, q1, q2, q3, q4, kP, hkP, hkPi⟩ := Cond.selects_spec hsel
  cases hcls.symm.trans q1
  cases hf.symm.trans q2
  cases hnamed.symm.trans q3
  have hselP : selectMethod e.platform s.vm cellB.cls r0 = .method mk := by rw [Launch.admits_selectMethod X.admits]; exact q4
  obtain ⟨vm₁, X₁, hstep₁⟩ := X.invokevirtualUp hexec hown hlink hsame howner hn hrm hstR (a := b) (cell := cellB) hcell
    (fun z h => by rw [h] at hobj; cases hobj) hselP hmethM habM hkP hkPi (g := g) hg (argsL := argsL) (rest := rest) (hlen _ hsigR) hstack hdg
  obtain ⟨v, B, X', hpost, hsteps⟩ := hK m meth c ⟨T.setVm vm₁, locs, cells, slots⟩ { g with stack := rest } (.invokevirtual index) mk (Value.ref b :: argsL).toArray X₁ hg hsize hdg hW (X₁.named hnamed) (hpre vm₁ X₁.warmed)
  exact ⟨v, vm₁, B, X₁.warmed, X', hpost, fun target h => hstep₁ _ fun acts => by rw [doInvoke_state]; exact hsteps.trans h⟩
theorem declSync {args : Array Value} {s : State} {x : MethodName} {b : ByteArray} {m : Nat} {ret : Option FieldType} (hi : (Cond.instanceMethod x).before args s = true) (hc : (Cond.codeSync x b m ret).before args s = true) : va_Decl s x := by
  obtain ⟨r0, r, hn, hrm, hst, -⟩ := Cond.instanceMethod_spec hi
  obtain ⟨r', c0, hrm', -, -, -, -, -, -, hsig⟩ := Cond.codeSync_spec hn hc
  cases hrm.symm.trans hrm'
  exact ⟨r0, r, hn, hrm, hst, hsig⟩
theorem fillIn_tail (X : State) (g' : JFrame) (m : MethodId) (self : Addr) (cell : Cell) (h : X.topJava?.isSome) : (fillInside X g' m self cell).frames.tail = .java g' :: X.frames.tail := by
  rw [frames_entered (g := g') (show (X.setCell self (cell.withEntry X.cur)).topJava?.isSome from h) _]
  rfl
set_option maxHeartbeats 8000000 in
/-- fillInStackTrace where no traces are kept: nothing changes (follows the library's Free.Exc) -/
theorem fillBack {l : Launch} {R : Room} {p : Program} {e : Env} {below : List Frame} {s : State} {sargs : Array Value} {len W : Nat} (hexec : p.tables.exec = Jvm.exec) (htr : e.platform.stackTraces = false)
    (T : ThrowableC) (L : T.Links e.platform s) (hfillN : s.methodNamed? Bundle.tFill = some T.fill)
    {u0 : RefV} {self : Addr} {cell cellS : Cell}
    (hobj : ∀ k, cell.vm ≠ .statics k) (hknown : cell.vm ≠ .unknown) (hmon : cell.monitor = {})
    (hvS : cell.slots[T.fStack.slot]? = some u0.v) (hsel0 : selectMethod e.platform s.vm cell.cls T.fill0 = .method T.fill0)
    (hneS : T.aS ≠ self) (hknownS : cellS.vm ≠ .unknown) (hvU : cellS.slots[T.fUnassigned.slot]? = some u0.v) (htS : Jvm.Takes s cell T.fStack u0.v)
    (hback : ∃ B : BackC, B.Links T e.platform s ∧ cell.slots[B.fBack.slot]? = some .null)
    (hRframes : 2 < R.frames) (hRlocals : W + 42 ≤ R.locals) :
    Back l R p e below s sargs Bundle.tFill len W
      (fun A a => a = #[.ref self] ∧ A.U.heap[self]? = some cell ∧ A.U.heap[T.aS]? = some cellS)
      (fun A _ v B => v = some (.ref self) ∧ B.U.heap = A.U.heap ∧ B.locs = A.locs ∧ B.cells = A.cells ∧ B.slots = A.slots) := by
  intro m meth c A g ig mk a X hg hsize hdg hWd hmk hPre
  obtain ⟨T', locs, cells, slots⟩ := A
  obtain ⟨ha, hcell, hcellS⟩ := hPre
  dsimp only [Pt.U, Pt.locs, Pt.cells, Pt.slots] at X hmk hcell hcellS ⊢
  subst ha
  have hfree : cell.monitor.owner = none := by rw [hmon]
  have hcount : cell.monitor.count = 0 := by rw [hmon]
  have e1 : T'.methodNamed? Bundle.tFill = s.methodNamed? Bundle.tFill := by
    rw [State.methodNamed?_of_vm (U := T') (V := s.setVm T'.vm) rfl]; exact State.methodNamed?_setVm X.warmed.alike _
  obtain rfl : mk = T.fill := Option.some.inj ((hmk.symm.trans e1).trans hfillN)
  have h : Jvm.At T' g.method c below := by rw [hg]; exact X.here
  have hfr' : T'.frames.length + 2 < (e.platform.stackLimits T'.me).1 := X.framesAbove hRframes
  have hwd' : (stackUse (.java g :: T'.frames.tail)).2 + 42 ≤ (e.platform.stackLimits T'.me).2 := X.stackAbove hsize (K := 42) (by omega)
  obtain ⟨g₀, hg0⟩ := Option.isSome_iff_exists.mp h.top
  obtain ⟨tl0, htl0⟩ := State.topJava?_eq_some.mp hg0
  have hlen0 : T'.frames.length = (Frame.java g :: T'.frames.tail).length := by rw [htl0]; rfl
  generalize hFr : (Frame.java g :: T'.frames.tail) = Fr at hlen0 hwd'
  have hlt : self < T'.heap.size := (Array.getElem?_eq_some_iff.mp hcell).1
  have hfg : (T'.setTop g).frames = [] ++ Fr := by rw [State.frames_setTop _ htl0, ← hFr, htl0]; rfl
  have hroom : e.platform.stackFull (((T'.setTop g).threads[(T'.setTop g).cur]?).getD { frames := [] }) (T'.setTop g).frames (1 + 2) = false :=
    Jvm.roomAbove (pushed := []) (base := Fr) (free := 42) (lim := e.platform.stackLimits T'.me) hfg (State.stackLimits_setTop _ h.top g) (by rw [← hlen0]; simp only [List.length_nil]; omega) hwd' (by simp only [stackUse_nil]; omega)
  have hw14 : (stackUse [Frame.java (fillJ T.fill self 16 [])]).2 = 14 := by
    rw [stackUse_java, stackUse_nil]
    simp [operandWords]
  obtain ⟨vm', hW', st⟩ := Steps.fillColdAnyV p (V := T') (g := g) (c := c) (self := self) h hexec T L X.warmed
    (Nn := fun u => u) heapOnly_id (fun _ _ => rfl) (fun _ => rfl) (fun u x y => setCell_twice _ _ _ _)
    (cell := cell) (cellS := cellS) (cN := cell.withEntry T'.cur) (u0 := u0) (ig := ig) (len := len) []
    hcell hobj hknown (Or.inl hfree) hvS hsel0 hcellS hneS hknownS hvU (fun u hu => hu) (fun u hu => hu) rfl rfl rfl rfl htS hdg
    (fun _ vm1 hW1 hAt t' hrest => by
      obtain ⟨g₁, hg1⟩ := Option.isSome_iff_exists.mp hAt.top
      obtain ⟨tl1, htl1⟩ := State.topJava?_eq_some.mp hg1
      have htail : (fillInside (T'.setVm vm1) g T.fill self cell).frames.tail = Fr := by rw [← hFr]; exact fillIn_tail (T'.setVm vm1) g T.fill self cell h.top
      have etl : tl1 = Fr := by rw [htl1] at htail; exact htail
      have htopE : ((T'.setVm vm1).setCell self (cell.withEntry (T'.setVm vm1).cur)).topJava?.isSome := h.top
      have hlimF : e.platform.stackLimits (fillInside (T'.setVm vm1) g T.fill self cell).me = e.platform.stackLimits T'.me := by
        rw [State.stackLimits_pushFrame, State.stackLimits_setTop _ htopE]; rfl
      exact L.nativeOff p htr hAt hW1 (self := self)
        (Jvm.roomAbove (pushed := [.java (fillJ T.fill self 16 [])]) (base := Fr) (free := 42) (lim := e.platform.stackLimits T'.me) (by rw [State.frames_setTop _ htl1, etl]; rfl) (by rw [State.stackLimits_setTop _ hAt.top]; exact hlimF)
          (by rw [← hlen0]; simp only [List.length_cons, List.length_nil]; omega) hwd' (by rw [hw14]; decide)) hrest)
    hroom (by obtain ⟨B, LB, hvB⟩ := hback; exact ⟨B, LB, hvB, fun _ _ => rfl⟩)
  have hend : ((cell.withEntry T'.cur).setSlot T.fStack.slot u0.v).left = cell := by
    rw [Cell.left_setSlot, Cell.left_withEntry T'.cur hfree hcount]
    exact Cell.setSlot_same hvS
  rw [hend, State.setCell_asItLies (s := T'.setVm vm') (a := self) (x := cell) hcell] at st
  exact ⟨some (.ref self), ⟨T'.setVm vm', locs, cells, slots⟩, X.noted hW', ⟨rfl, rfl, rfl, rfl, rfl⟩, st _ (Steps.refl _)⟩
