/-! printed by gen/compw.py -/
set_option maxRecDepth 100000
section MC
variable {p : Program} {l : Launch} {e : Env} {R : Room} {s : State} {m : MethodId} {args : Array Value} {below : List Frame} {meth : Method} {c : Code} {T : State} {locs : List Loc} {cells slots : Nat}
/-- thrown out of the inner frame: the outer one stands (follows the library's way out of a callee) -/
theorem outThrown (X : Stand p l e R s m args below meth c T locs cells slots) {g : JFrame} (hg : g.method = m) {mk : MethodId} {a : Array Value} {t : State} {q : Addr} {L : List Loc} {k n : Nat}
    (hend : Ended t (.java g :: below) (.threw q)) (hW : (T.calling g mk a).WarmedH t.vm) (hsame : (T.calling g mk a).sameButNew ({ t with vm := (T.calling g mk a).vm } : State) L k n) :
    ∃ T', Stand p l e R s m args below meth c T' (locs ++ L) (cells + k) (slots + n) ∧ T'.heap = t.heap ∧ T'.vm = t.vm ∧ t = (T'.setTop g).pushFrame (.throwing q) := by
  subst hg
  have htop := X.here.top
  obtain ⟨e2, q2, q3, q4, q5, q6⟩ := hsame
  have e3 : t = ({ (T.calling g mk a).setFrames t.frames with heap := t.heap, slotsUsed := t.slotsUsed } : State).setVm t.vm := by
    have : t = ({ t with vm := (T.calling g mk a).vm } : State).setVm t.vm := rfl
    rw [e2] at this
    exact this
  have hf₂ : t.frames = .throwing q :: .java g :: below := hend
  have hW' : T.WarmedH t.vm := hW
  obtain ⟨g₀, hr⟩ := X.frames_eq
  have hr' : (({ T with heap := t.heap, slotsUsed := t.slotsUsed } : State).setVm t.vm).frames = .java g₀ :: below := hr
  have ht : t = ((({ T with heap := t.heap, slotsUsed := t.slotsUsed } : State).setVm t.vm).setTop g).pushFrame (.throwing q) := by
    refine e3.trans ?_
    rw [hf₂, State.calling_eq htop, State.setFrames_setFrames, State.pushFrame, State.frames_setTop _ hr', State.setTop_of_frames _ hr', State.setFrames_setFrames]
    rfl
  have hB : T.sameButNew ({ T with heap := t.heap, slotsUsed := t.slotsUsed } : State) L k n := by
    refine ⟨?_, q2, q3, q4, q5, q6⟩
    obtain ⟨th, hth, -⟩ := State.frames_cons hr
    show ({ T with heap := t.heap, slotsUsed := t.slotsUsed } : State) = { T.setFrames T.frames with heap := t.heap, slotsUsed := t.slotsUsed }
    rw [State.setFrames_self hth]
  exact ⟨({ T with heap := t.heap, slotsUsed := t.slotsUsed } : State).setVm t.vm,
    ⟨X.admits, X.cas, X.clock, X.frames, X.room, X.hears, X.method, X.code, (X.here.setHeapUsed t.heap t.slotsUsed).setVm hW'.alike, X.tail, State.WarmedH.trans X.warmed hW', X.limits, X.bytes, X.same.trans (hB.setVm s.vm)⟩, rfl, rfl, ht⟩
set_option maxHeartbeats 8000000 in
/-- an object of a site with 1 captured ints is called -/
theorem vx_made1 (X : Stand p l e R s m args below meth c T locs cells slots) (hexec : p.tables.exec = Jvm.exec) {g : JFrame} (hg : g.method = m) (hsize : g.locals.size = c.maxLocals) {ig : Instr} (hdg : decode c.code g.pc = .ok (ig, 5)) (hstk : 2 * g.monitorRoom + (g.stack.map fun v => v.category).sum ≤ 8)
    {b tr : Addr} {cell : Cell} {f : Nat → Int32} (hcell : T.heap[b]? = some cell) (hkn : cell.vm ≠ .unknown) (hsl : ∀ i, i < 1 → cell.slots[i]? = some (.int (f i)))
    {k tk : Class} {file cf : ClassFile} {methk metht : Method} {ck : Code} {toy : ClassId} {t : MethodId} {nm ds : String} (hk : T.vm.classes[cell.cls]? = some k) (hpk : T.plainMethod ⟨cell.cls, 1⟩) (hfile : k.cf = some file) (hpool : file.constantPool = cf.constantPool)
    (hr1 : cf.constantPool[23]? = some (.methodref 19 22)) (hr3 : cf.constantPool.nameAndType? 22 = some (nm, ds)) (hmk : T.vm.method? ⟨cell.cls, 1⟩ = some methk) (hck : methk.code = some ck) (hbytes : ck.code = fwc 1) (hml : ck.maxLocals = 2) (hex : ck.exceptionTable = #[]) (hlk : methk.locks = false) (hretk : methk.sig.returnType = some .int)
    (htk : T.vm.classes[toy]? = some tk) (hready : T.vm.methodReady cell.cls 23 t) (hclsR : T.vm.classReady cell.cls 19 toy) (hff : ∀ i, i < 1 → ∃ f9 : Field, T.vm.fieldReady cell.cls (14 + 1 + 2 * i) cell.cls f9 ∧ f9.isStatic = false ∧ f9.slot = i)
    {y : MethodName} (hnamed : T.methodNamed? y = some t) (htc : t.cls = toy) (hmt : T.vm.method? t = some metht) (hst : metht.isStatic = true) (hini : tk.init = .initialized) (hpar : metht.sig.parameters.length = 1 + 1) (hsp : ∀ z : Method, signaturePolymorphic tk z = false)
    {ws : List Cond} {rm : Room} {Pc : Array Value → State → Prop} {Qc : Array Value → State → Outcome → State → Prop} {XC : Addr → String → State → State → Prop} {mc ms : Nat} {free : Addr → Prop} {bytes : ByteArray} {maxL : Nat} {ret : Option FieldType} (hM : vx_Met l y ws rm Pc Qc XC mc ms free) (hblind : FrameBlind Pc) (hrc : rm.cells = mc) (hrs : rm.slots = ms)
    (hws : ∀ w ∈ ws, ∀ a' U, T.WarmedH U.vm → w.before a' U = true) (hcode : Cond.code y bytes maxL ret ∈ ws) (hinit : ∀ a' U, T.WarmedH U.vm → (Cond.initialized y.cls).before a' U = true) (hret : ∀ a st v t, Qc a st (.returned v) t → ∃ x : Int32, v = some (.int x))
    (hfr : rm.frames + 2 ≤ R.frames) (hlo : 8 + 13 + (8 + (maxL + 11) + rm.locals) ≤ R.locals) (hc : cells + mc ≤ R.cells) (hs : slots + ms ≤ R.slots) (hPc : ∀ U : State, U.heap = T.heap → U.vm = T.vm → Pc #[.int (f 0), .ref tr] U) :
    (∃ (v : Option Value) (st₀ t' T' : State) (L : List Loc), st₀.heap = T.heap ∧ Stand p l e R s m args below meth c T' (locs ++ L) (cells + mc) (slots + ms) ∧ (∀ z ∈ L, free z.base) ∧ T'.heap = t'.heap ∧ T'.vm = t'.vm ∧ Qc #[.int (f 0), .ref tr] st₀ (.returned v) t' ∧
      ∀ acts, Steps p.tables e below (doInvoke e (T.setTop g) acts ⟨cell.cls, 1⟩ #[.ref b, .ref tr]).1 (T'.setTop { g with pc := g.pc + 5, stack := v.toList ++ g.stack })) ∨
    (∃ (q : Addr) (st₀ t' T' : State) (L : List Loc) (E : String) (ce : Cell), st₀.heap = T.heap ∧ Stand p l e R s m args below meth c T' (locs ++ L) (cells + mc) (slots + ms) ∧ (∀ z ∈ L, free z.base) ∧ T'.heap = t'.heap ∧ T'.vm = t'.vm ∧ XC q E st₀ t' ∧ t'.heap[q]? = some ce ∧ ce.vm = .none ∧ T.vm.findClass E = some ce.cls ∧
      ∀ acts, Steps p.tables e below (doInvoke e (T.setTop g) acts ⟨cell.cls, 1⟩ #[.ref b, .ref tr]).1 ((T'.setTop g).pushFrame (.throwing q))) := by
  obtain ⟨Y, hin⟩ := X.into hg hsize hdg #[.ref b, .ref tr] (R' := ({ frames := rm.frames + 1, locals := 8 + (maxL + 11) + rm.locals, cells := mc, slots := ms } : Room)) hmk hck hlk hpk (by show rm.frames + 1 + 1 ≤ R.frames; omega) (by rw [hml]; show 2 * g.monitorRoom + (g.stack.map fun v => v.category).sum + (2 + 11) + (8 + (maxL + 11) + rm.locals) ≤ R.locals; omega) hc hs
  generalize hU : (T.setTop g).pushFrame (.java (entryFrame ⟨cell.cls, 1⟩ #[.ref b, .ref tr] ck.maxLocals)) = U at Y hin
  have hvm : U.vm = T.vm := by rw [← hU]; rfl
  have hheap : U.heap = T.heap := by rw [← hU]; rfl
  have hK : vx_Back l ({ frames := rm.frames + 1, locals := 8 + (maxL + 11) + rm.locals, cells := mc, slots := ms } : Room) p e (.java g :: below) (T.calling g ⟨cell.cls, 1⟩ #[.ref b, .ref tr]) #[.ref b, .ref tr] y 3 8 (PreOf ({ frames := rm.frames + 1, locals := 8 + (maxL + 11) + rm.locals, cells := mc, slots := ms } : Room) mc ms Pc) (PostOf Qc mc ms free) (vx_Post XC mc ms free) := vx_back (bytes := bytes) (maxL := maxL) (ret := ret) hM hblind hrc hrs (Nat.le_refl _) (Nat.le_refl _) (fun w hw a' U hW => hws w hw a' U hW) hcode (fun a' U hW => hinit a' U hW)
  have hnU : U.methodNamed? y = some t := by
    rw [State.methodNamed?_of_vm (U := U) (V := T) hvm]; exact hnamed
  have hsU : U.topJava?.isSome := Y.here.top
  obtain ⟨b9, hmem⟩ := memberRef_ask' (e := e) (vm := T.vm) (d := cell.cls) (index := 23) hk hfile (Or.inl (by rw [hpool]; exact hr1)) (by rw [hpool]; exact hr3)
  have href : plainRef U e cell.cls 23 := by
    rw [← hU]
    exact ⟨19, _, _, b9, toy, tk, hmem, hclsR, htk, by simp [hsp]⟩
  have hloc : entryFrame ⟨cell.cls, 1⟩ #[.ref b, .ref tr] ck.maxLocals = ({ method := ⟨cell.cls, 1⟩, pc := 0, locals := #[.val (.ref b), .val (.ref tr)], stack := [], locked := none } : JFrame) := by rw [hml]; rfl
  have hgo : ∀ target, Steps p.tables e (.java g :: below) (doInvoke e (U.setTop ({ method := ⟨cell.cls, 1⟩, pc := 5, locals := #[.val (.ref b), .val (.ref tr)], stack := [], locked := none } : JFrame)) [] t #[.int (f 0), .ref tr]).1 target → ∀ acts, Steps p.tables e below (doInvoke e (T.setTop g) acts ⟨cell.cls, 1⟩ #[.ref b, .ref tr]).1 target := by
    intro target h acts
    rw [hin acts, hloc]
    refine Steps.weaken (mid := [.java g]) ?_
    refine fwd1 Y hexec hbytes (by rw [hheap]; exact hcell) hkn (by rw [hvm]; exact hff) hsl ?_
    jvm_step Y.here [hexec, hbytes, fw1_5, invokestatic.wp_ready (e := e) (s := U) (m := t) (k := tk) (meth := metht) (args := [.int (f 0), .ref tr]) (rest := []) (f := ({ method := ⟨cell.cls, 1⟩, pc := 5, locals := #[.val (.ref b), .val (.ref tr)], stack := [.ref tr, .int (f 0)], locked := none } : JFrame)) hsU href (by rw [hvm]; exact hready) (by rw [hvm, htc]; exact htk) (by rw [hvm]; exact hmt) (hsp _) hst hini hpar.symm rfl]
    intro acts'
    rw [doInvoke_state]
    exact h
  rcases hK ⟨cell.cls, 1⟩ methk ck ⟨U, [], 0, 0⟩ ({ method := ⟨cell.cls, 1⟩, pc := 5, locals := #[.val (.ref b), .val (.ref tr)], stack := [], locked := none } : JFrame) (.invokestatic 23) t #[.int (f 0), .ref tr] Y rfl (by rw [hml]; rfl) (by rw [hbytes]; exact fw1_5) (Nat.zero_le _) hnU ⟨Nat.le_of_eq (Nat.zero_add _), Nat.le_of_eq (Nat.zero_add _), hPc U hheap hvm⟩ with ⟨v, ⟨U', l2, c2, s2⟩, Y', ⟨g', mk', t', L, e1, e2, hqc, h1, hL, h2, h3⟩, hsteps⟩ | ⟨q, ⟨U', l2, c2, s2⟩, Y', ⟨g', mk', t', L, E, ce, e1, e2, hqc, hce, hcv, hcl, h1, hL, h2, h3⟩, hsteps⟩
  · dsimp only [Pt.U, Pt.locs, Pt.cells, Pt.slots] at Y' e1 e2 h1 h2 h3 hsteps hqc
    rw [List.nil_append] at h1
    rw [Nat.zero_add] at h2 h3
    subst h1; subst h2; subst h3
    obtain ⟨x, rfl⟩ := hret _ _ _ _ hqc
    obtain ⟨fs, hleave, -, hended, hWe, hsame⟩ := Y'.leave (v := some (.int x)) (fun h => by rw [hretk] at h; cases h) hlk
    obtain ⟨T', X', hW', -, ht⟩ := X.outOf hg hdg hended hWe hsame
    have hT1 : T'.heap = U'.heap := (congrArg State.heap ht).symm
    have hT2 : T'.vm = U'.vm := (congrArg State.vm ht).symm
    refine Or.inl ⟨some (.int x), U.calling g' mk' #[.int (f 0), .ref tr], t', T', l2, hheap, X', hL, hT1.trans e1, hT2.trans e2, hqc, fun acts => ?_⟩
    refine hgo _ (hsteps.trans ?_) acts
    rw [← ht]
    show Steps p.tables e (.java g :: below) (U'.setTop ({ method := ⟨cell.cls, 1⟩, pc := 8, locals := #[.val (.ref b), .val (.ref tr)], stack := [.int x], locked := none } : JFrame)) _
    jvm_step Y'.here [hexec, hbytes, fw1_8, Y'.method', hretk, narrow]
    intro acts''
    rw [hleave ({ method := ⟨cell.cls, 1⟩, pc := 8, locals := #[.val (.ref b), .val (.ref tr)], stack := [], locked := none } : JFrame) acts'' rfl rfl rfl]
    exact Steps.refl _
  · dsimp only [Pt.U, Pt.locs, Pt.cells, Pt.slots] at Y' e1 e2 h1 h2 h3 hsteps hqc hcl
    rw [List.nil_append] at h1
    rw [Nat.zero_add] at h2 h3
    subst h1; subst h2; subst h3
    obtain ⟨st1, hrun, hend, hW, hsm⟩ := Y'.leaveThrown q (g := ({ method := ⟨cell.cls, 1⟩, pc := 5, locals := #[.val (.ref b), .val (.ref tr)], stack := [], locked := none } : JFrame)) rfl rfl rfl (by rw [hex]; intro x hx; cases hx) hlk
    obtain ⟨T', X', eh, ev, ht⟩ := outThrown X hg hend hW hsm
    refine Or.inr ⟨q, U.calling g' mk' #[.int (f 0), .ref tr], t', T', l2, E, ce, hheap, X', hL, eh.trans e1, ev.trans e2, hqc, hce, hcv, (by rw [← hvm]; exact hcl), fun acts => ?_⟩
    refine hgo _ (hsteps.trans ?_) acts
    rw [← ht]
    exact st1
set_option maxHeartbeats 8000000 in
/-- an object of a site with 2 captured ints is called -/
theorem vx_made2 (X : Stand p l e R s m args below meth c T locs cells slots) (hexec : p.tables.exec = Jvm.exec) {g : JFrame} (hg : g.method = m) (hsize : g.locals.size = c.maxLocals) {ig : Instr} (hdg : decode c.code g.pc = .ok (ig, 5)) (hstk : 2 * g.monitorRoom + (g.stack.map fun v => v.category).sum ≤ 8)
    {b tr : Addr} {cell : Cell} {f : Nat → Int32} (hcell : T.heap[b]? = some cell) (hkn : cell.vm ≠ .unknown) (hsl : ∀ i, i < 2 → cell.slots[i]? = some (.int (f i)))
    {k tk : Class} {file cf : ClassFile} {methk metht : Method} {ck : Code} {toy : ClassId} {t : MethodId} {nm ds : String} (hk : T.vm.classes[cell.cls]? = some k) (hpk : T.plainMethod ⟨cell.cls, 1⟩) (hfile : k.cf = some file) (hpool : file.constantPool = cf.constantPool)
    (hr1 : cf.constantPool[26]? = some (.methodref 22 25)) (hr3 : cf.constantPool.nameAndType? 25 = some (nm, ds)) (hmk : T.vm.method? ⟨cell.cls, 1⟩ = some methk) (hck : methk.code = some ck) (hbytes : ck.code = fwc 2) (hml : ck.maxLocals = 2) (hex : ck.exceptionTable = #[]) (hlk : methk.locks = false) (hretk : methk.sig.returnType = some .int)
    (htk : T.vm.classes[toy]? = some tk) (hready : T.vm.methodReady cell.cls 26 t) (hclsR : T.vm.classReady cell.cls 22 toy) (hff : ∀ i, i < 2 → ∃ f9 : Field, T.vm.fieldReady cell.cls (14 + 2 + 2 * i) cell.cls f9 ∧ f9.isStatic = false ∧ f9.slot = i)
    {y : MethodName} (hnamed : T.methodNamed? y = some t) (htc : t.cls = toy) (hmt : T.vm.method? t = some metht) (hst : metht.isStatic = true) (hini : tk.init = .initialized) (hpar : metht.sig.parameters.length = 2 + 1) (hsp : ∀ z : Method, signaturePolymorphic tk z = false)
    {ws : List Cond} {rm : Room} {Pc : Array Value → State → Prop} {Qc : Array Value → State → Outcome → State → Prop} {XC : Addr → String → State → State → Prop} {mc ms : Nat} {free : Addr → Prop} {bytes : ByteArray} {maxL : Nat} {ret : Option FieldType} (hM : vx_Met l y ws rm Pc Qc XC mc ms free) (hblind : FrameBlind Pc) (hrc : rm.cells = mc) (hrs : rm.slots = ms)
    (hws : ∀ w ∈ ws, ∀ a' U, T.WarmedH U.vm → w.before a' U = true) (hcode : Cond.code y bytes maxL ret ∈ ws) (hinit : ∀ a' U, T.WarmedH U.vm → (Cond.initialized y.cls).before a' U = true) (hret : ∀ a st v t, Qc a st (.returned v) t → ∃ x : Int32, v = some (.int x))
    (hfr : rm.frames + 2 ≤ R.frames) (hlo : 8 + 13 + (8 + (maxL + 11) + rm.locals) ≤ R.locals) (hc : cells + mc ≤ R.cells) (hs : slots + ms ≤ R.slots) (hPc : ∀ U : State, U.heap = T.heap → U.vm = T.vm → Pc #[.int (f 0), .int (f 1), .ref tr] U) :
    (∃ (v : Option Value) (st₀ t' T' : State) (L : List Loc), st₀.heap = T.heap ∧ Stand p l e R s m args below meth c T' (locs ++ L) (cells + mc) (slots + ms) ∧ (∀ z ∈ L, free z.base) ∧ T'.heap = t'.heap ∧ T'.vm = t'.vm ∧ Qc #[.int (f 0), .int (f 1), .ref tr] st₀ (.returned v) t' ∧
      ∀ acts, Steps p.tables e below (doInvoke e (T.setTop g) acts ⟨cell.cls, 1⟩ #[.ref b, .ref tr]).1 (T'.setTop { g with pc := g.pc + 5, stack := v.toList ++ g.stack })) ∨
    (∃ (q : Addr) (st₀ t' T' : State) (L : List Loc) (E : String) (ce : Cell), st₀.heap = T.heap ∧ Stand p l e R s m args below meth c T' (locs ++ L) (cells + mc) (slots + ms) ∧ (∀ z ∈ L, free z.base) ∧ T'.heap = t'.heap ∧ T'.vm = t'.vm ∧ XC q E st₀ t' ∧ t'.heap[q]? = some ce ∧ ce.vm = .none ∧ T.vm.findClass E = some ce.cls ∧
      ∀ acts, Steps p.tables e below (doInvoke e (T.setTop g) acts ⟨cell.cls, 1⟩ #[.ref b, .ref tr]).1 ((T'.setTop g).pushFrame (.throwing q))) := by
  obtain ⟨Y, hin⟩ := X.into hg hsize hdg #[.ref b, .ref tr] (R' := ({ frames := rm.frames + 1, locals := 8 + (maxL + 11) + rm.locals, cells := mc, slots := ms } : Room)) hmk hck hlk hpk (by show rm.frames + 1 + 1 ≤ R.frames; omega) (by rw [hml]; show 2 * g.monitorRoom + (g.stack.map fun v => v.category).sum + (2 + 11) + (8 + (maxL + 11) + rm.locals) ≤ R.locals; omega) hc hs
  generalize hU : (T.setTop g).pushFrame (.java (entryFrame ⟨cell.cls, 1⟩ #[.ref b, .ref tr] ck.maxLocals)) = U at Y hin
  have hvm : U.vm = T.vm := by rw [← hU]; rfl
  have hheap : U.heap = T.heap := by rw [← hU]; rfl
  have hK : vx_Back l ({ frames := rm.frames + 1, locals := 8 + (maxL + 11) + rm.locals, cells := mc, slots := ms } : Room) p e (.java g :: below) (T.calling g ⟨cell.cls, 1⟩ #[.ref b, .ref tr]) #[.ref b, .ref tr] y 3 8 (PreOf ({ frames := rm.frames + 1, locals := 8 + (maxL + 11) + rm.locals, cells := mc, slots := ms } : Room) mc ms Pc) (PostOf Qc mc ms free) (vx_Post XC mc ms free) := vx_back (bytes := bytes) (maxL := maxL) (ret := ret) hM hblind hrc hrs (Nat.le_refl _) (Nat.le_refl _) (fun w hw a' U hW => hws w hw a' U hW) hcode (fun a' U hW => hinit a' U hW)
  have hnU : U.methodNamed? y = some t := by
    rw [State.methodNamed?_of_vm (U := U) (V := T) hvm]; exact hnamed
  have hsU : U.topJava?.isSome := Y.here.top
  obtain ⟨b9, hmem⟩ := memberRef_ask' (e := e) (vm := T.vm) (d := cell.cls) (index := 26) hk hfile (Or.inl (by rw [hpool]; exact hr1)) (by rw [hpool]; exact hr3)
  have href : plainRef U e cell.cls 26 := by
    rw [← hU]
    exact ⟨22, _, _, b9, toy, tk, hmem, hclsR, htk, by simp [hsp]⟩
  have hloc : entryFrame ⟨cell.cls, 1⟩ #[.ref b, .ref tr] ck.maxLocals = ({ method := ⟨cell.cls, 1⟩, pc := 0, locals := #[.val (.ref b), .val (.ref tr)], stack := [], locked := none } : JFrame) := by rw [hml]; rfl
  have hgo : ∀ target, Steps p.tables e (.java g :: below) (doInvoke e (U.setTop ({ method := ⟨cell.cls, 1⟩, pc := 9, locals := #[.val (.ref b), .val (.ref tr)], stack := [], locked := none } : JFrame)) [] t #[.int (f 0), .int (f 1), .ref tr]).1 target → ∀ acts, Steps p.tables e below (doInvoke e (T.setTop g) acts ⟨cell.cls, 1⟩ #[.ref b, .ref tr]).1 target := by
    intro target h acts
    rw [hin acts, hloc]
    refine Steps.weaken (mid := [.java g]) ?_
    refine fwd2 Y hexec hbytes (by rw [hheap]; exact hcell) hkn (by rw [hvm]; exact hff) hsl ?_
    jvm_step Y.here [hexec, hbytes, fw2_9, invokestatic.wp_ready (e := e) (s := U) (m := t) (k := tk) (meth := metht) (args := [.int (f 0), .int (f 1), .ref tr]) (rest := []) (f := ({ method := ⟨cell.cls, 1⟩, pc := 9, locals := #[.val (.ref b), .val (.ref tr)], stack := [.ref tr, .int (f 1), .int (f 0)], locked := none } : JFrame)) hsU href (by rw [hvm]; exact hready) (by rw [hvm, htc]; exact htk) (by rw [hvm]; exact hmt) (hsp _) hst hini hpar.symm rfl]
    intro acts'
    rw [doInvoke_state]
    exact h
  rcases hK ⟨cell.cls, 1⟩ methk ck ⟨U, [], 0, 0⟩ ({ method := ⟨cell.cls, 1⟩, pc := 9, locals := #[.val (.ref b), .val (.ref tr)], stack := [], locked := none } : JFrame) (.invokestatic 26) t #[.int (f 0), .int (f 1), .ref tr] Y rfl (by rw [hml]; rfl) (by rw [hbytes]; exact fw2_9) (Nat.zero_le _) hnU ⟨Nat.le_of_eq (Nat.zero_add _), Nat.le_of_eq (Nat.zero_add _), hPc U hheap hvm⟩ with ⟨v, ⟨U', l2, c2, s2⟩, Y', ⟨g', mk', t', L, e1, e2, hqc, h1, hL, h2, h3⟩, hsteps⟩ | ⟨q, ⟨U', l2, c2, s2⟩, Y', ⟨g', mk', t', L, E, ce, e1, e2, hqc, hce, hcv, hcl, h1, hL, h2, h3⟩, hsteps⟩
  · dsimp only [Pt.U, Pt.locs, Pt.cells, Pt.slots] at Y' e1 e2 h1 h2 h3 hsteps hqc
    rw [List.nil_append] at h1
    rw [Nat.zero_add] at h2 h3
    subst h1; subst h2; subst h3
    obtain ⟨x, rfl⟩ := hret _ _ _ _ hqc
    obtain ⟨fs, hleave, -, hended, hWe, hsame⟩ := Y'.leave (v := some (.int x)) (fun h => by rw [hretk] at h; cases h) hlk
    obtain ⟨T', X', hW', -, ht⟩ := X.outOf hg hdg hended hWe hsame
    have hT1 : T'.heap = U'.heap := (congrArg State.heap ht).symm
    have hT2 : T'.vm = U'.vm := (congrArg State.vm ht).symm
    refine Or.inl ⟨some (.int x), U.calling g' mk' #[.int (f 0), .int (f 1), .ref tr], t', T', l2, hheap, X', hL, hT1.trans e1, hT2.trans e2, hqc, fun acts => ?_⟩
    refine hgo _ (hsteps.trans ?_) acts
    rw [← ht]
    show Steps p.tables e (.java g :: below) (U'.setTop ({ method := ⟨cell.cls, 1⟩, pc := 12, locals := #[.val (.ref b), .val (.ref tr)], stack := [.int x], locked := none } : JFrame)) _
    jvm_step Y'.here [hexec, hbytes, fw2_12, Y'.method', hretk, narrow]
    intro acts''
    rw [hleave ({ method := ⟨cell.cls, 1⟩, pc := 12, locals := #[.val (.ref b), .val (.ref tr)], stack := [], locked := none } : JFrame) acts'' rfl rfl rfl]
    exact Steps.refl _
  · dsimp only [Pt.U, Pt.locs, Pt.cells, Pt.slots] at Y' e1 e2 h1 h2 h3 hsteps hqc hcl
    rw [List.nil_append] at h1
    rw [Nat.zero_add] at h2 h3
    subst h1; subst h2; subst h3
    obtain ⟨st1, hrun, hend, hW, hsm⟩ := Y'.leaveThrown q (g := ({ method := ⟨cell.cls, 1⟩, pc := 9, locals := #[.val (.ref b), .val (.ref tr)], stack := [], locked := none } : JFrame)) rfl rfl rfl (by rw [hex]; intro x hx; cases hx) hlk
    obtain ⟨T', X', eh, ev, ht⟩ := outThrown X hg hend hW hsm
    refine Or.inr ⟨q, U.calling g' mk' #[.int (f 0), .int (f 1), .ref tr], t', T', l2, E, ce, hheap, X', hL, eh.trans e1, ev.trans e2, hqc, hce, hcv, (by rw [← hvm]; exact hcl), fun acts => ?_⟩
    refine hgo _ (hsteps.trans ?_) acts
    rw [← ht]
    exact st1
set_option maxHeartbeats 8000000 in
/-- an object of a site with 3 captured ints is called -/
theorem vx_made3 (X : Stand p l e R s m args below meth c T locs cells slots) (hexec : p.tables.exec = Jvm.exec) {g : JFrame} (hg : g.method = m) (hsize : g.locals.size = c.maxLocals) {ig : Instr} (hdg : decode c.code g.pc = .ok (ig, 5)) (hstk : 2 * g.monitorRoom + (g.stack.map fun v => v.category).sum ≤ 8)
    {b tr : Addr} {cell : Cell} {f : Nat → Int32} (hcell : T.heap[b]? = some cell) (hkn : cell.vm ≠ .unknown) (hsl : ∀ i, i < 3 → cell.slots[i]? = some (.int (f i)))
    {k tk : Class} {file cf : ClassFile} {methk metht : Method} {ck : Code} {toy : ClassId} {t : MethodId} {nm ds : String} (hk : T.vm.classes[cell.cls]? = some k) (hpk : T.plainMethod ⟨cell.cls, 1⟩) (hfile : k.cf = some file) (hpool : file.constantPool = cf.constantPool)
    (hr1 : cf.constantPool[29]? = some (.methodref 25 28)) (hr3 : cf.constantPool.nameAndType? 28 = some (nm, ds)) (hmk : T.vm.method? ⟨cell.cls, 1⟩ = some methk) (hck : methk.code = some ck) (hbytes : ck.code = fwc 3) (hml : ck.maxLocals = 2) (hex : ck.exceptionTable = #[]) (hlk : methk.locks = false) (hretk : methk.sig.returnType = some .int)
    (htk : T.vm.classes[toy]? = some tk) (hready : T.vm.methodReady cell.cls 29 t) (hclsR : T.vm.classReady cell.cls 25 toy) (hff : ∀ i, i < 3 → ∃ f9 : Field, T.vm.fieldReady cell.cls (14 + 3 + 2 * i) cell.cls f9 ∧ f9.isStatic = false ∧ f9.slot = i)
    {y : MethodName} (hnamed : T.methodNamed? y = some t) (htc : t.cls = toy) (hmt : T.vm.method? t = some metht) (hst : metht.isStatic = true) (hini : tk.init = .initialized) (hpar : metht.sig.parameters.length = 3 + 1) (hsp : ∀ z : Method, signaturePolymorphic tk z = false)
    {ws : List Cond} {rm : Room} {Pc : Array Value → State → Prop} {Qc : Array Value → State → Outcome → State → Prop} {XC : Addr → String → State → State → Prop} {mc ms : Nat} {free : Addr → Prop} {bytes : ByteArray} {maxL : Nat} {ret : Option FieldType} (hM : vx_Met l y ws rm Pc Qc XC mc ms free) (hblind : FrameBlind Pc) (hrc : rm.cells = mc) (hrs : rm.slots = ms)
    (hws : ∀ w ∈ ws, ∀ a' U, T.WarmedH U.vm → w.before a' U = true) (hcode : Cond.code y bytes maxL ret ∈ ws) (hinit : ∀ a' U, T.WarmedH U.vm → (Cond.initialized y.cls).before a' U = true) (hret : ∀ a st v t, Qc a st (.returned v) t → ∃ x : Int32, v = some (.int x))
    (hfr : rm.frames + 2 ≤ R.frames) (hlo : 8 + 13 + (8 + (maxL + 11) + rm.locals) ≤ R.locals) (hc : cells + mc ≤ R.cells) (hs : slots + ms ≤ R.slots) (hPc : ∀ U : State, U.heap = T.heap → U.vm = T.vm → Pc #[.int (f 0), .int (f 1), .int (f 2), .ref tr] U) :
    (∃ (v : Option Value) (st₀ t' T' : State) (L : List Loc), st₀.heap = T.heap ∧ Stand p l e R s m args below meth c T' (locs ++ L) (cells + mc) (slots + ms) ∧ (∀ z ∈ L, free z.base) ∧ T'.heap = t'.heap ∧ T'.vm = t'.vm ∧ Qc #[.int (f 0), .int (f 1), .int (f 2), .ref tr] st₀ (.returned v) t' ∧
      ∀ acts, Steps p.tables e below (doInvoke e (T.setTop g) acts ⟨cell.cls, 1⟩ #[.ref b, .ref tr]).1 (T'.setTop { g with pc := g.pc + 5, stack := v.toList ++ g.stack })) ∨
    (∃ (q : Addr) (st₀ t' T' : State) (L : List Loc) (E : String) (ce : Cell), st₀.heap = T.heap ∧ Stand p l e R s m args below meth c T' (locs ++ L) (cells + mc) (slots + ms) ∧ (∀ z ∈ L, free z.base) ∧ T'.heap = t'.heap ∧ T'.vm = t'.vm ∧ XC q E st₀ t' ∧ t'.heap[q]? = some ce ∧ ce.vm = .none ∧ T.vm.findClass E = some ce.cls ∧
      ∀ acts, Steps p.tables e below (doInvoke e (T.setTop g) acts ⟨cell.cls, 1⟩ #[.ref b, .ref tr]).1 ((T'.setTop g).pushFrame (.throwing q))) := by
  obtain ⟨Y, hin⟩ := X.into hg hsize hdg #[.ref b, .ref tr] (R' := ({ frames := rm.frames + 1, locals := 8 + (maxL + 11) + rm.locals, cells := mc, slots := ms } : Room)) hmk hck hlk hpk (by show rm.frames + 1 + 1 ≤ R.frames; omega) (by rw [hml]; show 2 * g.monitorRoom + (g.stack.map fun v => v.category).sum + (2 + 11) + (8 + (maxL + 11) + rm.locals) ≤ R.locals; omega) hc hs
  generalize hU : (T.setTop g).pushFrame (.java (entryFrame ⟨cell.cls, 1⟩ #[.ref b, .ref tr] ck.maxLocals)) = U at Y hin
  have hvm : U.vm = T.vm := by rw [← hU]; rfl
  have hheap : U.heap = T.heap := by rw [← hU]; rfl
  have hK : vx_Back l ({ frames := rm.frames + 1, locals := 8 + (maxL + 11) + rm.locals, cells := mc, slots := ms } : Room) p e (.java g :: below) (T.calling g ⟨cell.cls, 1⟩ #[.ref b, .ref tr]) #[.ref b, .ref tr] y 3 8 (PreOf ({ frames := rm.frames + 1, locals := 8 + (maxL + 11) + rm.locals, cells := mc, slots := ms } : Room) mc ms Pc) (PostOf Qc mc ms free) (vx_Post XC mc ms free) := vx_back (bytes := bytes) (maxL := maxL) (ret := ret) hM hblind hrc hrs (Nat.le_refl _) (Nat.le_refl _) (fun w hw a' U hW => hws w hw a' U hW) hcode (fun a' U hW => hinit a' U hW)
  have hnU : U.methodNamed? y = some t := by
    rw [State.methodNamed?_of_vm (U := U) (V := T) hvm]; exact hnamed
  have hsU : U.topJava?.isSome := Y.here.top
  obtain ⟨b9, hmem⟩ := memberRef_ask' (e := e) (vm := T.vm) (d := cell.cls) (index := 29) hk hfile (Or.inl (by rw [hpool]; exact hr1)) (by rw [hpool]; exact hr3)
  have href : plainRef U e cell.cls 29 := by
    rw [← hU]
    exact ⟨25, _, _, b9, toy, tk, hmem, hclsR, htk, by simp [hsp]⟩
  have hloc : entryFrame ⟨cell.cls, 1⟩ #[.ref b, .ref tr] ck.maxLocals = ({ method := ⟨cell.cls, 1⟩, pc := 0, locals := #[.val (.ref b), .val (.ref tr)], stack := [], locked := none } : JFrame) := by rw [hml]; rfl
  have hgo : ∀ target, Steps p.tables e (.java g :: below) (doInvoke e (U.setTop ({ method := ⟨cell.cls, 1⟩, pc := 13, locals := #[.val (.ref b), .val (.ref tr)], stack := [], locked := none } : JFrame)) [] t #[.int (f 0), .int (f 1), .int (f 2), .ref tr]).1 target → ∀ acts, Steps p.tables e below (doInvoke e (T.setTop g) acts ⟨cell.cls, 1⟩ #[.ref b, .ref tr]).1 target := by
    intro target h acts
    rw [hin acts, hloc]
    refine Steps.weaken (mid := [.java g]) ?_
    refine fwd3 Y hexec hbytes (by rw [hheap]; exact hcell) hkn (by rw [hvm]; exact hff) hsl ?_
    jvm_step Y.here [hexec, hbytes, fw3_13, invokestatic.wp_ready (e := e) (s := U) (m := t) (k := tk) (meth := metht) (args := [.int (f 0), .int (f 1), .int (f 2), .ref tr]) (rest := []) (f := ({ method := ⟨cell.cls, 1⟩, pc := 13, locals := #[.val (.ref b), .val (.ref tr)], stack := [.ref tr, .int (f 2), .int (f 1), .int (f 0)], locked := none } : JFrame)) hsU href (by rw [hvm]; exact hready) (by rw [hvm, htc]; exact htk) (by rw [hvm]; exact hmt) (hsp _) hst hini hpar.symm rfl]
    intro acts'
    rw [doInvoke_state]
    exact h
  rcases hK ⟨cell.cls, 1⟩ methk ck ⟨U, [], 0, 0⟩ ({ method := ⟨cell.cls, 1⟩, pc := 13, locals := #[.val (.ref b), .val (.ref tr)], stack := [], locked := none } : JFrame) (.invokestatic 29) t #[.int (f 0), .int (f 1), .int (f 2), .ref tr] Y rfl (by rw [hml]; rfl) (by rw [hbytes]; exact fw3_13) (Nat.zero_le _) hnU ⟨Nat.le_of_eq (Nat.zero_add _), Nat.le_of_eq (Nat.zero_add _), hPc U hheap hvm⟩ with ⟨v, ⟨U', l2, c2, s2⟩, Y', ⟨g', mk', t', L, e1, e2, hqc, h1, hL, h2, h3⟩, hsteps⟩ | ⟨q, ⟨U', l2, c2, s2⟩, Y', ⟨g', mk', t', L, E, ce, e1, e2, hqc, hce, hcv, hcl, h1, hL, h2, h3⟩, hsteps⟩
  · dsimp only [Pt.U, Pt.locs, Pt.cells, Pt.slots] at Y' e1 e2 h1 h2 h3 hsteps hqc
    rw [List.nil_append] at h1
    rw [Nat.zero_add] at h2 h3
    subst h1; subst h2; subst h3
    obtain ⟨x, rfl⟩ := hret _ _ _ _ hqc
    obtain ⟨fs, hleave, -, hended, hWe, hsame⟩ := Y'.leave (v := some (.int x)) (fun h => by rw [hretk] at h; cases h) hlk
    obtain ⟨T', X', hW', -, ht⟩ := X.outOf hg hdg hended hWe hsame
    have hT1 : T'.heap = U'.heap := (congrArg State.heap ht).symm
    have hT2 : T'.vm = U'.vm := (congrArg State.vm ht).symm
    refine Or.inl ⟨some (.int x), U.calling g' mk' #[.int (f 0), .int (f 1), .int (f 2), .ref tr], t', T', l2, hheap, X', hL, hT1.trans e1, hT2.trans e2, hqc, fun acts => ?_⟩
    refine hgo _ (hsteps.trans ?_) acts
    rw [← ht]
    show Steps p.tables e (.java g :: below) (U'.setTop ({ method := ⟨cell.cls, 1⟩, pc := 16, locals := #[.val (.ref b), .val (.ref tr)], stack := [.int x], locked := none } : JFrame)) _
    jvm_step Y'.here [hexec, hbytes, fw3_16, Y'.method', hretk, narrow]
    intro acts''
    rw [hleave ({ method := ⟨cell.cls, 1⟩, pc := 16, locals := #[.val (.ref b), .val (.ref tr)], stack := [], locked := none } : JFrame) acts'' rfl rfl rfl]
    exact Steps.refl _
  · dsimp only [Pt.U, Pt.locs, Pt.cells, Pt.slots] at Y' e1 e2 h1 h2 h3 hsteps hqc hcl
    rw [List.nil_append] at h1
    rw [Nat.zero_add] at h2 h3
    subst h1; subst h2; subst h3
    obtain ⟨st1, hrun, hend, hW, hsm⟩ := Y'.leaveThrown q (g := ({ method := ⟨cell.cls, 1⟩, pc := 13, locals := #[.val (.ref b), .val (.ref tr)], stack := [], locked := none } : JFrame)) rfl rfl rfl (by rw [hex]; intro x hx; cases hx) hlk
    obtain ⟨T', X', eh, ev, ht⟩ := outThrown X hg hend hW hsm
    refine Or.inr ⟨q, U.calling g' mk' #[.int (f 0), .int (f 1), .int (f 2), .ref tr], t', T', l2, E, ce, hheap, X', hL, eh.trans e1, ev.trans e2, hqc, hce, hcv, (by rw [← hvm]; exact hcl), fun acts => ?_⟩
    refine hgo _ (hsteps.trans ?_) acts
    rw [← ht]
    exact st1
end MC
