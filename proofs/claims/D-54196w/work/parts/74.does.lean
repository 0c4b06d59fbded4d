/-! printed by gen/compw.py -/
set_option maxRecDepth 100000
theorem l_sam : ∀ q ∈ lsT, (shp q.2.2.2.1 q.2.2.2.2.1 q.2.2.2.2.2).sam.toString = "(LLeadRaces$Track;)I" := by decide +kernel
theorem l_plain : ∀ q ∈ lsT, plainName (q.2.2.2.2.1 ++ "$$Lambda") = true ∧ q.2.2.2.2.1 ≠ "java/lang/invoke/MethodHandle" ∧ q.2.2.2.2.1 ≠ "java/lang/invoke/VarHandle" := by decide +kernel
theorem l_par : ∀ q ∈ lsT, (parseMethodDescriptor (dsc q.2.2.2.1)).map (fun d => d.parameters.length) = some (q.2.2.2.1 + 1) ∧ (parseMethodDescriptor "(LLeadRaces$Track;)I").map (fun d => d.parameters.length) = some 1 := by decide +kernel
section JD
variable {l : Launch} {D : va_G} {cc cc' : ByteArray} {own : String} {nL nL' : Nat} {rm rm' : Room} {Γ : Cxt} {h : PH} {k n pc nx ix count : Nat} {lv : List (Nat × Value)} {st rest : List Value} {Post : Option Value → PH → Prop} {PostX : String → Nat → PH → Prop}
theorem JX_after5 {p : Program} {l : Launch} {e : Env} {R : Room} {s : State} {m : MethodId} {args : Array Value} {below : List Frame} {meth : Method} {c : Code} {H : Heap} {locs : List Loc} {A A1 : Nat → Prop} {Q : State → Prop} {ls : Array Slot} {st0 : List Value} {a : Array Value} {mc ms : Nat}
    (hr : vx_Run5 p l e R s m args below meth c H locs k n mc ms (F0 m pc ls st0) rest (Qp D A1 Post a) (XCp D A1 PostX) A1) (hS : va_S A s.heap H locs) (hsub : ∀ q, A1 q → A q)
    (kk : ∀ (v : Option Value) (h' : PH) (H1 : Heap) (locs1 : List Loc), Post v h' → hw D A h' H1 → va_S A s.heap H1 locs1 → W p l e R s m args below meth c H1 locs1 (k + mc) (n + ms) Q (F0 m (pc + 5) ls (v.toList ++ rest)))
    (kx : ∀ (E : String) (q : Nat) (h' : PH) (H1 : Heap) (locs1 : List Loc) (ce : Cell), PostX E q h' → hw D A h' H1 → va_S A s.heap H1 locs1 → H1[q]? = some ce → ce.vm = .none → s.vm.findClass E = some ce.cls → (E = "LeadRaces$Fault" → mon H1 q) → vx_W p l e R s m args below meth c H1 locs1 (k + mc) (n + ms) Q (F0 m pc ls rest) q) : W p l e R s m args below meth c H locs k n Q (F0 m pc ls st0) := by
  intro T hT X
  rcases hr T hT X with ⟨v, st₀, t, T', L, h0, X', hL, e1, e2, ⟨v', h', hv, hp, hh', hz, hk⟩, st⟩ | ⟨q, st₀, t, T', L, E, ce, h0, X', hL, e1, e2, ⟨h', hp, hh', ⟨hz, hk⟩, hmo⟩, hce, hcv, hcl, st⟩
  · cases hv
    rw [h0] at hz hk
    obtain ⟨t2, a1, b1⟩ := kk v h' T'.heap (locs ++ L) hp (by rw [e1]; exact hh'.weaken hsub)
      ⟨Nat.le_trans hS.1 (by rw [e1]; exact hz), fun q h1 h2 => by rw [e1, hk q (Nat.lt_of_lt_of_le h1 hS.1) (fun z => h2 (hsub q z))]; exact hS.2.1 q h1 h2, fun q hq => by
        rcases List.mem_append.mp hq with h | h
        · exact hS.2.2 q h
        · exact hsub _ (hL q h)⟩ T' rfl X'
    exact ⟨t2, st t2 a1, b1⟩
  · rw [h0] at hz hk
    obtain ⟨t2, a1, b1⟩ := kx E q h' T'.heap (locs ++ L) ce hp (by rw [e1]; exact hh'.weaken hsub)
      ⟨Nat.le_trans hS.1 (by rw [e1]; exact hz), fun q h1 h2 => by rw [e1, hk q (Nat.lt_of_lt_of_le h1 hS.1) (fun z => h2 (hsub q z))]; exact hS.2.1 q h1 h2, fun q hq => by
        rcases List.mem_append.mp hq with h | h
        · exact hS.2.2 q h
        · exact hsub _ (hL q h)⟩ (by rw [e1]; exact hce) hcv hcl (fun e => by rw [e1]; exact hmo e) T' rfl X'
    exact ⟨t2, st.trans a1, b1⟩
set_option maxHeartbeats 8000000 in
/-- the object of a lambda site is called: the track tr is handed to its body -/
theorem J_does (X : Cx l D cc own nL rm Γ) {j b tr : Nat} {q : MethodName × Nat × Nat × Nat × String × String} (hj : lsT[j]? = some q) {f : Nat → Int32} (d : At cc pc (.invokeinterface ix count) 5 nx) (hb : h b = some (eM j q.2.2.2.1 f)) {y : MethodName} (hy : y = ⟨q.2.2.2.2.1, q.2.2.2.2.2, dsc q.2.2.2.1⟩)
    (hC : Cq l D y (ws_ y cc' nL' (some .int)) rm' (ivs q.2.2.2.1 f ++ [.ref tr]) h Post PostX) (hret : ∀ v h', Post v h' → ∃ x : Int32, v = some (.int x)) (hg : GoodIn lw_all (ws_ y cc' nL' (some .int))) (hini : Cond.initialized y.cls ∈ lw_all) (hl1 : Cond.methodLink own ix yDeed ∈ lw_all) (hst2 : Cond.static y ∈ lw_all)
    (hR : rm'.frames + 2 ≤ rm.frames ∧ 8 + 13 + (8 + (nL' + 11) + rm'.locals) ≤ rm.locals) (hst : (rest.map fun v => v.category).sum ≤ 8) (hk : k + rm'.cells ≤ rm.cells) (hn : n + rm'.slots ≤ rm.slots)
    (kk : ∀ (v : Option Value) (h' : PH), Post v h' → J Γ h' (k + rm'.cells) (n + rm'.slots) nx lv (v.toList ++ rest)) (kx : ∀ (E : String) (q : Nat) (h' : PH), PostX E q h' → JX Γ h' (k + rm'.cells) (n + rm'.slots) pc lv E q) : J Γ h k n pc lv (.ref tr :: .ref b :: rest) := by
  obtain ⟨p, l', e, R, s, m, args, below, meth, co, D', A, Q⟩ := Γ
  obtain ⟨rfl, rfl, rfl, hx, hb2, hml, hown, hts, hK, hA, hlk, hE⟩ := X
  obtain ⟨hd, rfl⟩ := d
  have hq : q ∈ lsT := List.mem_of_getElem? hj
  intro H locs ls hh hS hl
  have hsub := dm_in hh hA hS.1
  refine JX_after5 (A1 := dm h H.size) (a := (ivs q.2.2.2.1 f ++ [Value.ref tr]).toArray) ?_ hS hsub (fun v h' H1 locs1 hp hh1 hS1 => kk v h' hp H1 locs1 ls hh1 hS1 hl) (fun E q h' H1 locs1 ce hp hh1 hS1 h1 h2 h3 h4 => kx E q h' hp H1 locs1 ls rest ce hh1 hS1 hl h1 h2 h3 h4)
  intro T hT X2
  obtain ⟨hLs, hdecl, hface⟩ := hE.2.2.2.1
  obtain ⟨mS, kS, cfS, i0, p0, hmS, hkS, -, -, -, hmade, hcan⟩ := hLs j q hj
  obtain ⟨kS', hkS', hnameS⟩ := className_of_methodNamed hmS
  cases hkS.symm.trans hkS'
  rw [l_own q hq] at hnameS
  obtain ⟨kK, tk, file, methk, ck, toy, t, hkK, hkn, -, -, -, -, hmk, -, -, -, -, -, hfl, -⟩ := made_f hq hkS hnameS hmade (obj_0 hts)
  obtain ⟨r0, r, hn0, hrm, hstR, hsigR⟩ := Cond.declares_spec hdecl
  obtain ⟨cL, kL, r1, hcL, hkL, hiL, hfoundL, hn1⟩ := Cond.interfaceMethod_spec hface
  cases hn0.symm.trans hn1
  have hr0cls : r0.cls = cL := Option.some.inj ((findClass_of_methodNamed hn0).symm.trans hcL)
  obtain ⟨hnameR, hdescR⟩ := name_of_methodNamed hn0 hrm
  obtain ⟨-, -, -, -, -, -, -, iface', -, -, -, -, found, -, -, -, -, -, hi', -, -, -, -, -, -, hfound', -, -, -, -, -, -, -, -, -, -, hsel⟩ := Lambda.isMade_spec hmade
  cases hcL.symm.trans hi'
  have e1 := l_sam q hq
  have hfr : found = r0 := by
    have h1 : s.methodFound? "LeadRaces$Deed" "does" "(LLeadRaces$Track;)I" = some r0 := hfoundL
    have hcL' : s.vm.findClass "LeadRaces$Deed" = some cL := hcL
    simp only [State.methodFound?, hcL', hkL, hiL, Option.bind_eq_bind, Option.bind_some] at h1
    rw [e1] at hfound'
    have h2 : ((methodIn cL "does" "(LLeadRaces$Track;)I" true none).ask { classPath := fun _ => none } s.vm).1 = .ok found := hfound'
    rw [h2] at h1
    exact Option.some.inj h1
  subst hfr
  obtain ⟨i2, hi2, hasg, hway⟩ := State.lambdaCallable_spec hcan
  cases hcL.symm.trans hi2
  have hcell : T.heap[b]? = some (vp_cell (D'.1 (300 + j)) (q.2.2.2.1, .inl f)) := by
    rw [hT]
    have z : H[b]? = some (vp_cell (D'.1 (100 + (200 + j))) (q.2.2.2.1, .inl f)) := (hh b _ hb).1
    rw [show 100 + (200 + j) = 300 + j by omega] at z
    exact z
  have hlenR : [Value.ref tr].length = r.sig.parameters.length := by
    have z := (l_par q hq).2
    rw [show parseMethodDescriptor "(LLeadRaces$Track;)I" = some r.sig from hsigR] at z
    exact (Option.some.inj z).symm
  obtain ⟨vm₁, X₁, hstep₁⟩ := X2.invokeinterface hx hown (hts _ hl1) hn0 hrm hstR (by rw [hr0cls]; exact hkL) hiL (by decide) (a := b) (cell := vp_cell (D'.1 (300 + j)) (q.2.2.2.1, .inl f)) (kcell := kK) hcell (fun z h => by cases h) hkK (by rw [hr0cls]; exact hasg)
    (m' := ⟨D'.1 (300 + j), 1⟩) (meth' := methk) (by rw [Launch.admits_selectMethod X2.admits]; exact hsel) hmk (by rw [hnameR, hdescR]; rw [e1] at hway; exact hway) (by rw [hfl]; decide) (by simp [Method.isAbstract, hfl, hasFlag, Acc.abstract])
    (g := F0 m pc ls (.ref tr :: .ref b :: rest)) rfl (argsL := [.ref tr]) (rest := rest) hlenR rfl (by rw [hb2]; exact hd)
  have hW₁ : s.WarmedH vm₁ := X₁.warmed
  obtain ⟨kS₁, hkS₁, heS₁⟩ := hW₁.alike.2.2 _ _ hkS
  have hnameS₁ : kS₁.name = q.2.2.2.2.1 := by rw [heS₁]; exact hnameS
  have hO₁ : ∀ o ok, vm₁.findClass "java/lang/Object" = some o → vm₁.classes[o]? = some ok → ok.instanceTypes = #[] := by
    intro o ok h1 h2
    rw [hW₁.alike.findClass] at h1
    obtain ⟨k5, hk5, -⟩ := Vm.findClass_spec h1
    obtain ⟨k6, hk6, he6⟩ := hW₁.alike.2.2 _ _ hk5
    cases h2.symm.trans hk6
    rw [he6]
    exact obj_0 hts o k5 h1 hk5
  obtain ⟨kK₁, tk₁, file₁, methk₁, ck₁, toy₁, t₁, hkK₁, hkn₁, hfile₁, hpool₁, hty₁, hki₁, hmk₁, hck₁, hby₁, hml₁, hex₁, hlk₁, hfl₁, hrt₁, htoy₁, htk₁, hit₁, hlook₁, hrdy₁, hcr₁, hff₁⟩ := made_f hq hkS₁ hnameS₁ (Lambda.isMade_warmer hW₁ hmade) hO₁
  have hcodeY : (Cond.code y cc' nL' (some .int)).before args s = true := hts _ (hg _ List.mem_cons_self).1
  obtain ⟨mT, hmT⟩ := Cond.code_named hcodeY
  obtain ⟨methT, cT, hmethT, hcT, hbT, hlT, hrT, hlkT, -, hsigT⟩ := Cond.code_spec hmT hcodeY
  have hstT : methT.isStatic = true := Cond.static_spec hmT hmethT (hts _ hst2)
  obtain ⟨kT, hkT, hnameT⟩ := className_of_methodNamed hmT
  have hfT : s.vm.findClass y.cls = some mT.cls := findClass_of_methodNamed hmT
  have hiT : kT.init = .initialized := Cond.initialized_spec hfT hkT (hts _ hini)
  have hyc : y.cls = q.2.2.2.2.1 := by rw [hy]
  have hfT₁ : vm₁.findClass q.2.2.2.2.1 = some mT.cls := by rw [hW₁.alike.findClass, ← hyc]; exact hfT
  cases htoy₁.symm.trans hfT₁
  obtain ⟨pl1, pl2, pl3⟩ := l_plain q hq
  have ht₁ : t₁ = mT := by
    have h0 : s.methodFound? y.cls y.name y.desc = some mT := State.methodFound?_of_named hmT (by rw [hyc]; exact ⟨pl2, pl3⟩)
    have h1 : (s.setVm vm₁).methodFound? y.cls y.name y.desc = some mT := by rw [State.methodFound?_setVm hW₁.alike]; exact h0
    rw [hy] at h1
    simp only [State.methodFound?, State.vm_setVm, hfT₁, htk₁, Option.bind_eq_bind, Option.bind_some] at h1
    rw [hlook₁] at h1
    exact Option.some.inj h1
  subst ht₁
  have hmethT₁ : vm₁.method? t₁ = some methT := by rw [hW₁.alike.method?]; exact hmethT
  obtain ⟨kT₁, hkT₁, heT₁⟩ := hW₁.alike.2.2 _ _ hkT
  cases htk₁.symm.trans hkT₁
  have hsp : ∀ z : Method, signaturePolymorphic tk₁ z = false := fun z => by
    have z1 : tk₁.name = q.2.2.2.2.1 := by rw [heT₁, hnameT, hyc]
    simp [signaturePolymorphic, z1, pl2, pl3]
  have hparT : methT.sig.parameters.length = q.2.2.2.1 + 1 := by
    have z := (l_par q hq).1
    rw [show parseMethodDescriptor (dsc q.2.2.2.1) = some methT.sig from (by rw [hy] at hsigT; exact hsigT)] at z
    exact Option.some.inj z
  have hpk : (T.setVm vm₁).plainMethod ⟨D'.1 (300 + j), 1⟩ := State.plainMethod.of_name (fun k' hk' => by
    cases hkK₁.symm.trans hk'
    rw [hkn₁]
    exact pl1)
  have hnm₁ : (T.setVm vm₁).methodNamed? y = some t₁ := X₁.named hmT
  obtain ⟨m1, -, m3⟩ := l_ref q hq
  have hsl : ∀ i, i < q.2.2.2.1 → (vp_cell (D'.1 (300 + j)) (q.2.2.2.1, .inl f)).slots[i]? = some (.int (f i)) := fun i hi => by
    show (Array.ofFn (n := q.2.2.2.1) fun z => Value.int (f z.val))[i]? = _
    simp [hi]
  have hrun : (∃ (v : Option Value) (st₀ t' T' : State) (L : List Loc), st₀.heap = (T.setVm vm₁).heap ∧ Stand p l' e R s m args below meth co T' (locs ++ L) (k + rm'.cells) (n + rm'.slots) ∧ (∀ z ∈ L, dm h H.size z.base) ∧ T'.heap = t'.heap ∧ T'.vm = t'.vm ∧ Qp D' (dm h H.size) Post (ivs q.2.2.2.1 f ++ [Value.ref tr]).toArray st₀ (.returned v) t' ∧
      ∀ acts, Steps p.tables e below (doInvoke e ((T.setVm vm₁).setTop (F0 m pc ls rest)) acts ⟨D'.1 (300 + j), 1⟩ #[.ref b, .ref tr]).1 (T'.setTop { F0 m pc ls rest with pc := pc + 5, stack := v.toList ++ rest })) ∨
    (∃ (q9 : Addr) (st₀ t' T' : State) (L : List Loc) (E : String) (ce : Cell), st₀.heap = (T.setVm vm₁).heap ∧ Stand p l' e R s m args below meth co T' (locs ++ L) (k + rm'.cells) (n + rm'.slots) ∧ (∀ z ∈ L, dm h H.size z.base) ∧ T'.heap = t'.heap ∧ T'.vm = t'.vm ∧ XCp D' (dm h H.size) PostX q9 E st₀ t' ∧ t'.heap[q9]? = some ce ∧ ce.vm = .none ∧ (T.setVm vm₁).vm.findClass E = some ce.cls ∧
      ∀ acts, Steps p.tables e below (doInvoke e ((T.setVm vm₁).setTop (F0 m pc ls rest)) acts ⟨D'.1 (300 + j), 1⟩ #[.ref b, .ref tr]).1 ((T'.setTop (F0 m pc ls rest)).pushFrame (.throwing q9))) := by
    have hws9 : ∀ w ∈ ws_ y cc' nL' (some .int), ∀ (a' : Array Value) (U : State), (T.setVm vm₁).WarmedH U.vm → w.before a' U = true := fun w hw a' U hW => pay_in hts hg w hw a' U (State.WarmedH.trans hW₁ hW)
    rcases l_n q hq with e9 | e9 | e9
    · rw [e9] at hff₁ hrdy₁ hcr₁ hby₁ hparT m1 m3
      exact vx_made1 X₁ hx (g := F0 m pc ls rest) rfl hl.1 (by rw [hb2]; exact hd) (by show 2 * 0 + (rest.map fun v => v.category).sum ≤ 8; omega) hcell (by intro z; cases z) (fun i hi => hsl i (by rw [e9]; exact hi)) hkK₁ hpk hfile₁ hpool₁ m1 m3 hmk₁ hck₁ hby₁ hml₁ hex₁ hlk₁ hrt₁ htk₁ hrdy₁ hcr₁ hff₁ hnm₁ rfl hmethT₁ hstT (by rw [heT₁]; exact hiT) hparT hsp (hC H.size) Pv.blind rfl rfl hws9 List.mem_cons_self (fun a' U hW => word_at (State.WarmedH.trans hW₁ hW) (Or.inl (by first | rfl | simp [Cond.onTables, Cond.keeps, Cond.steady])) (hts _ hini))
        (fun a st v t hq9 => by obtain ⟨v', h', hv, hp, -⟩ := hq9; cases hv; exact hret _ _ hp) hR.1 hR.2 hk hn (fun U h1 h2 => ⟨by rw [e9]; rfl, Pv.to hh hS hA hK hE (h1.trans hT) (by rw [h2]; exact hW₁)⟩)
    · rw [e9] at hff₁ hrdy₁ hcr₁ hby₁ hparT m1 m3
      exact vx_made2 X₁ hx (g := F0 m pc ls rest) rfl hl.1 (by rw [hb2]; exact hd) (by show 2 * 0 + (rest.map fun v => v.category).sum ≤ 8; omega) hcell (by intro z; cases z) (fun i hi => hsl i (by rw [e9]; exact hi)) hkK₁ hpk hfile₁ hpool₁ m1 m3 hmk₁ hck₁ hby₁ hml₁ hex₁ hlk₁ hrt₁ htk₁ hrdy₁ hcr₁ hff₁ hnm₁ rfl hmethT₁ hstT (by rw [heT₁]; exact hiT) hparT hsp (hC H.size) Pv.blind rfl rfl hws9 List.mem_cons_self (fun a' U hW => word_at (State.WarmedH.trans hW₁ hW) (Or.inl (by first | rfl | simp [Cond.onTables, Cond.keeps, Cond.steady])) (hts _ hini))
        (fun a st v t hq9 => by obtain ⟨v', h', hv, hp, -⟩ := hq9; cases hv; exact hret _ _ hp) hR.1 hR.2 hk hn (fun U h1 h2 => ⟨by rw [e9]; rfl, Pv.to hh hS hA hK hE (h1.trans hT) (by rw [h2]; exact hW₁)⟩)
    · rw [e9] at hff₁ hrdy₁ hcr₁ hby₁ hparT m1 m3
      exact vx_made3 X₁ hx (g := F0 m pc ls rest) rfl hl.1 (by rw [hb2]; exact hd) (by show 2 * 0 + (rest.map fun v => v.category).sum ≤ 8; omega) hcell (by intro z; cases z) (fun i hi => hsl i (by rw [e9]; exact hi)) hkK₁ hpk hfile₁ hpool₁ m1 m3 hmk₁ hck₁ hby₁ hml₁ hex₁ hlk₁ hrt₁ htk₁ hrdy₁ hcr₁ hff₁ hnm₁ rfl hmethT₁ hstT (by rw [heT₁]; exact hiT) hparT hsp (hC H.size) Pv.blind rfl rfl hws9 List.mem_cons_self (fun a' U hW => word_at (State.WarmedH.trans hW₁ hW) (Or.inl (by first | rfl | simp [Cond.onTables, Cond.keeps, Cond.steady])) (hts _ hini))
        (fun a st v t hq9 => by obtain ⟨v', h', hv, hp, -⟩ := hq9; cases hv; exact hret _ _ hp) hR.1 hR.2 hk hn (fun U h1 h2 => ⟨by rw [e9]; rfl, Pv.to hh hS hA hK hE (h1.trans hT) (by rw [h2]; exact hW₁)⟩)
  rcases hrun with ⟨v, st₀, t', T', L, g1, g2, g3, g4, g5, g6, g7⟩ | ⟨q9, st₀, t', T', L, E, ce, g1, g2, g3, g4, g5, g6, g7, g8, g9, g10⟩
  · exact Or.inl ⟨v, st₀, t', T', L, g1.trans hT, g2, g3, g4, g5, g6, fun target h9 => hstep₁ _ fun acts => (g7 acts).trans h9⟩
  · exact Or.inr ⟨q9, st₀, t', T', L, E, ce, g1.trans hT, g2, g3, g4, g5, g6, g7, g8, vx_cls hW₁ g9, hstep₁ _ fun acts => g10 acts⟩
end JD
