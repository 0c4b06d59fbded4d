/-! monitors that are free; contracts that ask it of an object; the call of Throwable.fillInStackTrace -/
set_option maxRecDepth 100000
theorem mon_stand {p : Program} {l : Launch} {e : Env} {R : Room} {s : State} {m : MethodId} {args : Array Value} {below : List Frame} {meth : Method} {c : Code} {T : State} {locs : List Loc} {k n q : Nat} (X : Stand p l e R s m args below meth c T locs k n) (hm : mon s.heap q) (hq : q < s.heap.size) : mon T.heap q := by
  obtain ⟨-, -, -, -, -, hold⟩ := X.same
  intro c2 hc2
  have hc : s.heap[q]? = some s.heap[q] := Array.getElem?_eq_getElem hq
  obtain ⟨c', h1, h2, -⟩ := hold q _ hc
  have h1 : T.heap[q]? = some c' := h1
  rw [h1] at hc2
  cases hc2
  rw [h2]
  exact (hm s.heap[q] hc : s.heap[q].monitor = {})
/-- the object q, which the method was called with, has a free monitor -/
def Mo (q : Nat) (Γ : Cxt) : Prop := match Γ with
  | (_, _, _, _, s, _, _, _, _, _, _, _, _) => mon s.heap q ∧ q < s.heap.size
def CtP (l : Launch) (D : va_G) (y : MethodName) (cc : ByteArray) (nL : Nat) (ret : Option FieldType) (rm : Room) (q : Nat) (av : List Value) (h : PH) (Post : Option Value → PH → Prop) : Prop :=
  ∀ sz : Nat, Met l y (ws_ y cc nL ret) rm (va_Pc av (fun U => Pv D h sz U ∧ mon U.heap q)) (Qp D (dm h sz) Post) rm.cells rm.slots (dm h sz)
theorem CtP.of {l : Launch} {D : va_G} {y : MethodName} {cc : ByteArray} {nL : Nat} {ret : Option FieldType} {rm : Room} {q : Nat} {eq : va_E} {av : List Value} {h : PH} {Post : Option Value → PH → Prop} (hy : plainName y.cls = true) (hlen : Nat.ble (lg_sl av).length nL = true) (hq : h q = some eq)
    (body : ∀ Γ : Cxt, Cx l D cc y.cls nL rm Γ → Rt ret Post Γ → Mn y.name Γ → Mo q Γ → J Γ h 0 0 0 (lv_args 0 av) []) : CtP l D y cc nL ret rm q av h Post := by
  intro sz
  refine Met.ofW (cc := cc) (maxL := nL) (ret := ret) hy rfl ?_
  intro p e s m args below meth c s₁ B hml hv
  obtain ⟨rfl, ⟨rfl, hP, hK, hE⟩, hmo⟩ := hv
  have hts := atoms_spec (ws := ws_ y cc nL ret) B.pre
  have hts : ∀ w ∈ lw_all, w.before _ s = true := fun w h => hts w (List.mem_cons_of_mem _ h)
  have hown : s.vm.findClass y.cls = some m.cls := findClass_of_methodNamed B.named
  have hin : meth.name = y.name := (name_of_methodNamed B.named B.method).1
  have hl := lv_entry av (n := nL) (Nat.le_of_ble_eq_true hlen)
  have hb := body (p, l, e, (headSpec (ws_ y cc nL ret) rm).room, s, m, av.toArray, below, meth, c, D, dm h s.heap.size, MQ below (Qp D (dm h s.heap.size) Post) av.toArray s rm.cells rm.slots (dm h s.heap.size))
    ⟨rfl, rfl, rfl, B.exec, B.bytes, hml, hown, hts, hK, fun q hq => Or.inr hq, B.notSynchronized, hE⟩ ⟨B.returns, fun H locs g k => k⟩ hin ⟨hmo, hP.lt hq⟩
  rw [lg_entry_eq]
  exact hb s.heap [] _ hP.self va_S.rf (by rw [hml]; exact hl)
/-- .. and it is free behind the call -/
theorem CtP.free {l : Launch} {D : va_G} {y : MethodName} {cc : ByteArray} {nL : Nat} {ret : Option FieldType} {rm : Room} {q : Nat} {eq : va_E} {av : List Value} {h : PH} {Post : Option Value → PH → Prop} (hC : CtP l D y cc nL ret rm q av h Post) (hq : h q = some eq) (sz : Nat) :
    Met l y (ws_ y cc nL ret) rm (va_Pc av (fun U => Pv D h sz U ∧ mon U.heap q)) (fun a st oc t => Qp D (dm h sz) Post a st oc t ∧ mon t.heap q) rm.cells rm.slots (dm h sz) := by
  intro p e h1 h2 h3 s m args below hf ha hP hK
  obtain ⟨n, o, a1, a2, a3, a4, L, a5, a6⟩ := hC sz p e h1 h2 h3 s m args below hf ha hP hK
  refine ⟨n, o, a1, a2, a3, ⟨a4, ?_⟩, L, a5, a6⟩
  obtain ⟨-, ⟨-, hw1, -⟩, hmo⟩ := hP
  obtain ⟨-, -, -, -, -, -, -, hold⟩ := a5
  intro c2 hc2
  have hlt : q < s.heap.size := hw1.lt hq
  have hc : s.heap[q]? = some s.heap[q] := Array.getElem?_eq_getElem hlt
  obtain ⟨c', g1, g2, -⟩ := hold q _ hc
  have g1 : (stepsAlone p.tables e n s).heap[q]? = some c' := g1
  rw [g1] at hc2
  cases hc2
  rw [g2]
  exact (hmo s.heap[q] hc : s.heap[q].monitor = {})
theorem Ct.P {l : Launch} {D : va_G} {y : MethodName} {cc : ByteArray} {nL : Nat} {ret : Option FieldType} {rm : Room} {q : Nat} {av : List Value} {h : PH} {Post : Option Value → PH → Prop} (hC : Ct l D y cc nL ret rm av h Post) : CtP l D y cc nL ret rm q av h Post := by
  intro sz p e h1 h2 h3 s m args below hf ha hP hK
  exact hC sz p e h1 h2 h3 s m args below hf ha ⟨hP.1, hP.2.1⟩ hK
theorem PvM.blind {D : va_G} {h : PH} {sz q : Nat} {av : List Value} : FrameBlind (va_Pc av (fun U => Pv D h sz U ∧ mon U.heap q)) := by
  intro a U g mk z
  obtain ⟨q0, ⟨q1, q2, q3, q4⟩, q5⟩ := z
  exact ⟨q0, ⟨q1, q2, va_K.moved (u := U) (U := U.calling g mk a) (Vm.Alike.refl U.vm) q3, Ev.warm (s := U) (U := U.calling g mk a) (State.WarmedH.refl U) q4⟩, q5⟩
/-- the judgement with the monitor of q known to be free -/
def JM (Γ : Cxt) (q : Nat) (h : PH) (k n pc : Nat) (lv : List (Nat × Value)) (st : List Value) : Prop :=
  match Γ with
  | (p, l, e, R, s, m, args, below, meth, c, D, A, Q) => ∀ (H : Heap) (locs : List Loc) (ls : Array Slot), hw D A h H → va_S A s.heap H locs → lv_has ls c.maxLocals lv → mon H q → W p l e R s m args below meth c H locs k n Q (F0 m pc ls st)
section JMo
variable {l : Launch} {D : va_G} {cc : ByteArray} {own : String} {nL : Nat} {rm : Room} {Γ : Cxt} {h : PH} {k n pc nx q : Nat} {lv lv2 : List (Nat × Value)} {st rest : List Value}
variable {y : MethodName} {cc' : ByteArray} {nL' ix : Nat} {ret : Option FieldType} {rm' : Room} {As : List Value} {Post : Option Value → PH → Prop} {PostX : String → Nat → PH → Prop}
theorem JM.of (kk : J Γ h k n pc lv st) : JM Γ q h k n pc lv st := by
  obtain ⟨p, l', e, R, s, m, args, below, meth, co, D', A, Q⟩ := Γ
  exact fun H locs ls a b c _ => kk H locs ls a b c
/-- a constructor of the object b is called, from a constructor of b -/
theorem J_callIM (X : Cx l D cc own nL rm Γ) {b : Nat} (hmo : Mo b Γ) (d : At cc pc (.invokespecial ix) 3 nx) (hC : CtP l D y cc' nL' none rm' b (.ref b :: As) h Post) (hg : GoodIn lw_all (ws_ y cc' nL' none)) (hini : Cond.initialized y.cls ∈ lw_all) (hl1 : Cond.methodLink own ix y ∈ lw_all) (hin : Cond.instanceMethod y ∈ lw_all) (hnm : y.name = "<init>") {na : Nat} (hd2 : okY y na) (hna : As.length = na)
    (hR : rm'.frames + 1 ≤ rm.frames ∧ 8 + (nL' + 11) + rm'.locals ≤ rm.locals) (hs : st = As.reverse ++ .ref b :: rest) (hst : (rest.map fun v => v.category).sum ≤ 8) (hk : k + rm'.cells ≤ rm.cells) (hn : n + rm'.slots ≤ rm.slots)
    (kk : ∀ (v : Option Value) (h' : PH), Post v h' → J Γ h' (k + rm'.cells) (n + rm'.slots) nx lv (v.toList ++ rest)) : J Γ h k n pc lv st := by
  obtain ⟨p, l', e, R, s, m, args, below, meth, co, D', A, Q⟩ := Γ
  obtain ⟨rfl, rfl, rfl, hx, hb2, hml, hown, hts, hK, hA, hlk, hE⟩ := X
  obtain ⟨hd, rfl⟩ := d
  intro H locs ls hh hS hl T hT X2
  have hsub := dm_in hh hA hS.1
  have hm : mon H b := by rw [← hT]; exact mon_stand X2 hmo.1 hmo.2
  exact J_after (va_runI (As := As) (rest := rest) ⟨hx, hb2, hml, hown, hts⟩ (hC H.size) (cwI na hts hg rfl rfl rfl (hts _ hini) (hts _ hl1) (hts _ hin) hnm hd2 hR) ⟨PvM.blind, fun U hU hW => ⟨rfl, Pv.to hh hS hA hK hE hU hW, by rw [hU]; exact hm⟩⟩ rfl hna (by rw [← hml]; exact hl.1) hs (lv_room hst) hd ⟨hk, hn⟩) hS hsub (fun v h' H1 locs1 hp hh1 hS1 => kk v h' hp H1 locs1 ls hh1 hS1 hl) T hT X2
/-- .. of a new object -/
theorem JM_callI (X : Cx l D cc own nL rm Γ) {b : Nat} {eb : va_E} (d : At cc pc (.invokespecial ix) 3 nx) (hb : h b = some eb) (hC : CtP l D y cc' nL' none rm' b (.ref b :: As) h Post) (hg : GoodIn lw_all (ws_ y cc' nL' none)) (hini : Cond.initialized y.cls ∈ lw_all) (hl1 : Cond.methodLink own ix y ∈ lw_all) (hin : Cond.instanceMethod y ∈ lw_all) (hnm : y.name = "<init>") {na : Nat} (hd2 : okY y na) (hna : As.length = na)
    (hR : rm'.frames + 1 ≤ rm.frames ∧ 8 + (nL' + 11) + rm'.locals ≤ rm.locals) (hs : st = As.reverse ++ .ref b :: rest) (hst : (rest.map fun v => v.category).sum ≤ 8) (hk : k + rm'.cells ≤ rm.cells) (hn : n + rm'.slots ≤ rm.slots)
    (kk : ∀ (v : Option Value) (h' : PH), Post v h' → JM Γ b h' (k + rm'.cells) (n + rm'.slots) nx lv (v.toList ++ rest)) : JM Γ b h k n pc lv st := by
  obtain ⟨p, l', e, R, s, m, args, below, meth, co, D', A, Q⟩ := Γ
  obtain ⟨rfl, rfl, rfl, hx, hb2, hml, hown, hts, hK, hA, hlk, hE⟩ := X
  obtain ⟨hd, rfl⟩ := d
  intro H locs ls hh hS hl hm T hT X2
  have hsub := dm_in hh hA hS.1
  obtain ⟨v, st₀, t, T', L, h0, X', hL, e1, e2, ⟨⟨v', h', hv, hp, hh', hz, hk2⟩, hm2⟩, stp⟩ := va_runI (As := As) (rest := rest) ⟨hx, hb2, hml, hown, hts⟩ (hC.free hb H.size) (cwI na hts hg rfl rfl rfl (hts _ hini) (hts _ hl1) (hts _ hin) hnm hd2 hR) ⟨PvM.blind, fun U hU hW => ⟨rfl, Pv.to hh hS hA hK hE hU hW, by rw [hU]; exact hm⟩⟩ rfl hna (by rw [← hml]; exact hl.1) hs (lv_room hst) hd ⟨hk, hn⟩ T hT X2
  cases hv
  rw [h0] at hz hk2
  obtain ⟨t2, a1, b1⟩ := kk v h' hp T'.heap (locs ++ L) ls (by rw [e1]; exact hh'.weaken hsub)
    ⟨Nat.le_trans hS.1 (by rw [e1]; exact hz), fun q h1 h2 => by rw [e1, hk2 q (Nat.lt_of_lt_of_le h1 hS.1) (fun z => h2 (hsub q z))]; exact hS.2.1 q h1 h2, fun q hq => by
      rcases List.mem_append.mp hq with h | h
      · exact hS.2.2 q h
      · exact hsub _ (hL q h)⟩ hl (by rw [e1]; exact hm2) T' rfl X'
  exact ⟨t2, stp t2 a1, b1⟩
theorem JM_callV (X : Cx l D cc own nL rm Γ) {b ci N : Nat} {T : u_T} {fs : List Value} (d : At cc pc (.invokevirtual ix) 3 nx) (hC : CtP l D y cc' nL' ret rm' b (.ref b :: As) h Post) (hg : GoodIn lw_all (wsV own ix y.cls y (ws_ y cc' nL' ret))) {na : Nat} (hd2 : okY y na) (hna : As.length = na)
    (hb : h b = some (eo ci fs)) (hc : vwCl[ci]? = some (y.cls, T, N)) (hR : rm'.frames + 1 ≤ rm.frames ∧ 8 + (nL' + 11) + rm'.locals ≤ rm.locals) (hs : st = As.reverse ++ .ref b :: rest) (hst : (rest.map fun v => v.category).sum ≤ 8) (hk : k + rm'.cells ≤ rm.cells) (hn : n + rm'.slots ≤ rm.slots)
    (kk : ∀ (v : Option Value) (h' : PH), Post v h' → J Γ h' (k + rm'.cells) (n + rm'.slots) nx lv (v.toList ++ rest)) : JM Γ b h k n pc lv st := by
  obtain ⟨p, l', e, R, s, m, args, below, meth, co, D', A, Q⟩ := Γ
  obtain ⟨rfl, rfl, rfl, hx, hb2, hml, hown, hts, hK, hA, hlk, hE⟩ := X
  obtain ⟨hd, rfl⟩ := d
  intro H locs ls hh hS hl hm
  have hsub := dm_in hh hA hS.1
  exact J_after (va_runV (As := As) (rest := rest) (C := y.cls) ⟨hx, hb2, hml, hown, hts⟩ (hC H.size) (cwV na hts hg rfl rfl rfl ⟨rfl, hd2⟩ hR) ⟨PvM.blind, hw.recv hK hh hc hb, fun U hU hW => ⟨rfl, Pv.to hh hS hA hK hE hU hW, by rw [hU]; exact hm⟩⟩ rfl hna (by rw [← hml]; exact hl.1) hs (lv_room hst) hd ⟨hk, hn⟩) hS hsub (fun v h' H1 locs1 hp hh1 hS1 => kk v h' hp H1 locs1 ls hh1 hS1 hl)
theorem JM_dup (X : Cx l D cc own nL rm Γ) {v : Value} (d : At cc pc .dup 1 nx) (hc : v.category = 1) (kk : JM Γ q h k n nx lv (v :: v :: st)) : JM Γ q h k n pc lv (v :: st) := by
  obtain ⟨p, l', e, R, s, m, args, below, meth, co, D', A, Q⟩ := Γ
  obtain ⟨rfl, rfl, rfl, hx, hb, hml, hown, hts, hK, hA, hlk, hE⟩ := X
  obtain ⟨hd, rfl⟩ := d
  intro H locs ls hh hS hl hm
  exact lv_dup hx hb hd hc (kk H locs ls hh hS hl hm)
theorem JM_null (X : Cx l D cc own nL rm Γ) (d : At cc pc .aconst_null 1 nx) (kk : JM Γ q h k n nx lv (.null :: st)) : JM Γ q h k n pc lv st := by
  obtain ⟨p, l', e, R, s, m, args, below, meth, co, D', A, Q⟩ := Γ
  obtain ⟨rfl, rfl, rfl, hx, hb, hml, hown, hts, hK, hA, hlk, hE⟩ := X
  obtain ⟨hd, rfl⟩ := d
  intro H locs ls hh hS hl hm
  exact lv_null hx hb hd (kk H locs ls hh hS hl hm)
theorem JM_ldc (X : Cx l D cc own nL rm Γ) {ix : Nat} {v : Int32} (d : At cc pc (.ldc ix) 2 nx) (hc : Cond.constant own ix v ∈ lw_all) (kk : JM Γ q h k n nx lv (.int v :: st)) : JM Γ q h k n pc lv st := by
  obtain ⟨p, l', e, R, s, m, args, below, meth, co, D', A, Q⟩ := Γ
  obtain ⟨rfl, rfl, rfl, hx, hb, hml, hown, hts, hK, hA, hlk, hE⟩ := X
  obtain ⟨hd, rfl⟩ := d
  intro H locs ls hh hS hl hm
  exact lv_ldc hx hb hown (hts _ hc) hd (kk H locs ls hh hS hl hm)
theorem JM_iload_n (X : Cx l D cc own nL rm Γ) {kf : Fin 4} {x : Int32} (d : At cc pc (.iload_n kf) 1 nx) (j : Nat) (e0 : lv[j]? = some ((kf : Nat), .int x)) (kk : JM Γ q h k n nx lv (.int x :: st)) : JM Γ q h k n pc lv st := by
  obtain ⟨p, l', e, R, s, m, args, below, meth, co, D', A, Q⟩ := Γ
  obtain ⟨rfl, rfl, rfl, hx, hb, hml, hown, hts, hK, hA, hlk, hE⟩ := X
  obtain ⟨hd, rfl⟩ := d
  intro H locs ls hh hS hl hm
  exact lv_iload_n hx hb hd rfl (lv_at hl j e0) (kk H locs ls hh hS hl hm)
theorem JM_aload_n (X : Cx l D cc own nL rm Γ) {kf : Fin 4} {x : Nat} (d : At cc pc (.aload_n kf) 1 nx) (j : Nat) (e0 : lv[j]? = some ((kf : Nat), .ref x)) (kk : JM Γ q h k n nx lv (.ref x :: st)) : JM Γ q h k n pc lv st := by
  obtain ⟨p, l', e, R, s, m, args, below, meth, co, D', A, Q⟩ := Γ
  obtain ⟨rfl, rfl, rfl, hx, hb, hml, hown, hts, hK, hA, hlk, hE⟩ := X
  obtain ⟨hd, rfl⟩ := d
  intro H locs ls hh hS hl hm
  exact lv_aload_n hx hb hd rfl (lv_at hl j e0) (kk H locs ls hh hS hl hm)
theorem JM_astore_n (X : Cx l D cc own nL rm Γ) {kf : Fin 4} {i : Nat} {x : Nat} (d : At cc pc (.astore_n kf) 1 nx) (e0 : (i, Value.ref x) :: lv.filter (fun q => !(q.1 == i) && !(q.1 + 1 == i && q.2.category == 2)) = lv2) (hi : (kf : Nat) = i) (hn : Nat.ble (i + 1) nL = true) (kk : JM Γ q h k n nx lv2 st) : JM Γ q h k n pc lv (Value.ref x :: st) := by
  obtain ⟨p, l', e, R, s, m, args, below, meth, co, D', A, Q⟩ := Γ
  obtain ⟨rfl, rfl, rfl, hx, hb, hml, hown, hts, hK, hA, hlk, hE⟩ := X
  obtain ⟨hd, rfl⟩ := d
  intro H locs ls hh hS hl hm
  rw [hml] at hl; exact lv_astore_n hx hb hd hi hl (Nat.le_of_ble_eq_true hn) e0 (fun ls hl => kk H locs ls hh hS (by rw [hml]; exact hl) hm)
theorem JM_get (X : Cx l D cc own nL rm Γ) {a ci kf ix N : Nat} {fs : List Value} {v : Value} {C ref : String} {T : u_T} (d : At cc pc (.getfield ix) 3 nx) (ha : h a = some (eo ci fs)) (hc : vwCl[ci]? = some (C, T, N)) (hin : ∀ w ∈ u_ws C T N, w ∈ lw_all) (hk : Nat.ble (kf + 1) N = true) (hlink : Cond.fieldLink own ix ref (T kf).2.1 (T kf).2.2.1 ∈ lw_all) (hr : ref = (T kf).1) (hv : fs[kf]? = some v)
    (kk : JM Γ q h k n nx lv (v :: st)) : JM Γ q h k n pc lv (.ref a :: st) := by
  obtain ⟨p, l', e, R, s, m, args, below, meth, co, D', A, Q⟩ := Γ
  obtain ⟨rfl, rfl, rfl, hx, hb, hml, hown, hts, hK, hA, hlk, hE⟩ := X
  obtain ⟨hd, rfl⟩ := d
  intro H locs ls hh hS hl hm
  obtain ⟨q0, hq0⟩ := wl_at (D := D') ha (hh.lt ha)
  subst hr
  exact va_get hx hb hts hin hown hK (wl_P hh) q0 hq0 hc kf (Nat.le_of_ble_eq_true hk) (hts _ hlink) (fun _ z => z) hv hd (kk H locs ls hh hS hl hm)
theorem JM_athrow (X : Cx l D cc own nL rm Γ) {ci N : Nat} {T : u_T} {fs : List Value} {E : String} (d : At cc pc .athrow 1 nx) (hq : h q = some (eo ci fs)) (hc : vwCl[ci]? = some (E, T, N)) (kk : JX Γ h k n pc lv E q) : JM Γ q h k n pc lv (.ref q :: st) := by
  obtain ⟨p, l', e, R, s, m, args, below, meth, co, D', A, Q⟩ := Γ
  obtain ⟨rfl, rfl, rfl, hx, hb, hml, hown, hts, hK, hA, hlk, hE⟩ := X
  obtain ⟨hd, rfl⟩ := d
  intro H locs ls hh hS hl hm
  obtain ⟨r, hr, cell, g1, g2, g3, -⟩ := (hh q _ hq).1
  have hcl : s.vm.findClass E = some cell.cls := by rw [g2]; exact (hK.1 ci _ hc).2.1
  exact vx_athrow hx hb hd (kk H locs ls st cell hh hS hl g1 g3 hcl (fun _ => hm))
/-- a new object, whose monitor is free -/
theorem J_newM (X : Cx l D cc own nL rm Γ) {ci ix N : Nat} {fs : List Value} {C : String} {T : u_T} {tf : Nat → FieldType} (d : At cc pc (.new ix) 3 nx) (hc : vwCl[ci]? = some (C, T, N)) (hin : ∀ w ∈ u_ws C T N, w ∈ lw_all) (hty : ∀ k, k < N → parseFieldDescriptor (T k).2.2.1 = some (tf k)) (hcl : Cond.classLink own ix C ∈ lw_all) (hinst : Cond.instantiable C N ∈ lw_all) (hini : Cond.initialized C ∈ lw_all) (hfs : ∀ j, j < N → defaultValue (tf j) = vp_V fs j) (hk : k + 1 ≤ rm.cells) (hn : n + N ≤ rm.slots)
    (kk : ∀ q, h q = none → JM Γ q (pu h q (eo ci fs)) (k + 1) (n + N) nx lv (.ref q :: st)) : J Γ h k n pc lv st := by
  obtain ⟨p, l', e, R, s, m, args, below, meth, co, D', A, Q⟩ := Γ
  obtain ⟨rfl, rfl, rfl, hx, hb, hml, hown, hts, hK, hA, hlk, hE⟩ := X
  obtain ⟨hd, rfl⟩ := d
  intro H locs ls hh hS hl
  have hKn := hK.1 ci _ hc
  refine W.newcK hx hb hown (hts _ hcl) (hts _ hinst) (hts _ hini) rfl hd hk hn hKn.2.1 rfl fun H1 kC hkC e1 z1 o1 => ?_
  have hkk : ∀ (k : Nat) (x : Nat × va_E), (wl D' h H.size)[k]? = some x → H1[x.1]? = H[x.1]? := fun k x hx => o1 x.1 ((wl_P hh k x hx).lt)
  have hP1 : va_P D' vwCl (wl D' h H.size ++ [(H.size, tr D' (eo ci fs))]) H1 := ((wl_P hh).kept hkk).app (fun k x hx => by
    have hz : k < 1 := (List.getElem?_eq_some_iff.mp hx).1
    rw [show k = 0 by omega] at hx
    cases hx
    exact ⟨_, hc, (u_born tf hts hin hKn hkC e1 hty).to hfs⟩)
  obtain ⟨g1, g2⟩ := wl_push (e := eo ci fs) hh.at hP1 ((wl_D hh).push (wl_P hh) rfl (hA _ hS.1))
  exact kk H.size g1 H1 locs ls g2 ⟨Nat.le_trans hS.1 (by omega), fun x h1 h2 => (o1 x (Nat.lt_of_lt_of_le h1 hS.1)).trans (hS.2.1 x h1 h2), hS.2.2⟩ hl (fun c hc => by
    rw [e1] at hc
    cases hc
    rfl)
theorem JX_catchM (X : Cx l D cc own nL rm Γ) {sp ep hp ct : Nat} {hh0 : List (Nat × Nat × Nat × Nat)} {name : String} (ht : Tb ((sp, ep, hp, ct) :: hh0) Γ) (hc : covers ⟨sp, ep, hp, ct⟩ pc = true) (h0 : ct ≠ 0) (hlink : Cond.classLink own ct name ∈ lw_all) (hca : Cond.castable "LeadRaces$Fault" name ∈ lw_tbl)
    (kk : JM Γ q h k n hp lv [.ref q]) : JX Γ h k n pc lv "LeadRaces$Fault" q := by
  obtain ⟨p, l', e, R, s, m, args, below, meth, co, D', A, Q⟩ := Γ
  obtain ⟨rfl, rfl, rfl, hx, hb, hml, hown, hts, hK, hA, hlk, hE⟩ := X
  intro H locs ls rest ce hh1 hS hl hce hcv hcl hmo
  exact vx_catch (name := name) hown [] ⟨sp, ep, hp, ct⟩ (tableOf hh0) ht (fun z hz => nomatch hz) hc h0 (hts _ hlink) (va_any rfl (hE.tw _ hca rfl)) hce hcv hcl (kk H locs ls hh1 hS hl (hmo rfl))
end JMo
