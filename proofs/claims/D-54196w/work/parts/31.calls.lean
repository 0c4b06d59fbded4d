/-! rows of J: calls (printed by gen/calls.py) -/
set_option maxRecDepth 100000
section JK2
variable {l : Launch} {D : va_G} {cc : ByteArray} {own : String} {nL : Nat} {rm : Room} {Γ : Cxt} {h : PH} {k n pc nx : Nat} {lv : List (Nat × Value)} {st rest : List Value}
variable {y : MethodName} {cc' : ByteArray} {nL' ix : Nat} {ret : Option FieldType} {rm' : Room} {As : List Value} {Post : Option Value → PH → Prop} {PostX : String → Nat → PH → Prop}
theorem J_after5 {p : Program} {l : Launch} {e : Env} {R : Room} {s : State} {m : MethodId} {args : Array Value} {below : List Frame} {meth : Method} {c : Code} {H : Heap} {locs : List Loc} {A A1 : Nat → Prop} {Q : State → Prop} {ls : Array Slot} {st0 : List Value} {a : Array Value} {mc ms : Nat}
    (hr : va_Run5 p l e R s m args below meth c H locs k n mc ms (F0 m pc ls st0) rest (Qp D A1 Post a) A1) (hS : va_S A s.heap H locs) (hsub : ∀ q, A1 q → A q)
    (kk : ∀ (v : Option Value) (h' : PH) (H1 : Heap) (locs1 : List Loc), Post v h' → hw D A h' H1 → va_S A s.heap H1 locs1 → W p l e R s m args below meth c H1 locs1 (k + mc) (n + ms) Q (F0 m (pc + 5) ls (v.toList ++ rest))) : W p l e R s m args below meth c H locs k n Q (F0 m pc ls st0) := by
  intro T hT X
  obtain ⟨v, st₀, t, T', L, h0, X', hL, e1, e2, ⟨v', h', hv, hp, hh', hz, hk⟩, st⟩ := hr T hT X
  cases hv
  rw [h0] at hz hk
  obtain ⟨t2, a1, b1⟩ := kk v h' T'.heap (locs ++ L) hp (by rw [e1]; exact hh'.weaken hsub)
    ⟨Nat.le_trans hS.1 (by rw [e1]; exact hz), fun q h1 h2 => by rw [e1, hk q (Nat.lt_of_lt_of_le h1 hS.1) (fun z => h2 (hsub q z))]; exact hS.2.1 q h1 h2, fun q hq => by
      rcases List.mem_append.mp hq with h | h
      · exact hS.2.2 q h
      · exact hsub _ (hL q h)⟩ T' rfl X'
  exact ⟨t2, st t2 a1, b1⟩
theorem JX_after {p : Program} {l : Launch} {e : Env} {R : Room} {s : State} {m : MethodId} {args : Array Value} {below : List Frame} {meth : Method} {c : Code} {H : Heap} {locs : List Loc} {A A1 : Nat → Prop} {Q : State → Prop} {ls : Array Slot} {st0 : List Value} {a : Array Value} {mc ms : Nat}
    (hr : vx_Run p l e R s m args below meth c H locs k n mc ms (F0 m pc ls st0) rest (Qp D A1 Post a) (XCp D A1 PostX) A1) (hS : va_S A s.heap H locs) (hsub : ∀ q, A1 q → A q)
    (kk : ∀ (v : Option Value) (h' : PH) (H1 : Heap) (locs1 : List Loc), Post v h' → hw D A h' H1 → va_S A s.heap H1 locs1 → W p l e R s m args below meth c H1 locs1 (k + mc) (n + ms) Q (F0 m (pc + 3) ls (v.toList ++ rest)))
    (kx : ∀ (E : String) (q : Nat) (h' : PH) (H1 : Heap) (locs1 : List Loc) (ce : Cell), PostX E q h' → hw D A h' H1 → va_S A s.heap H1 locs1 → H1[q]? = some ce → ce.vm = .none → s.vm.findClass E = some ce.cls → (E = "LeadRaces$Fault" → mon H1 q) → vx_W p l e R s m args below meth c H1 locs1 (k + mc) (n + ms) Q (F0 m pc ls rest) q) : W p l e R s m args below meth c H locs k n Q (F0 m pc ls st0) := by
  intro T hT X
  rcases hr T hT X with ⟨v, st₀, t, T', L, h0, X', hL, e1, e2, ⟨v', h', hv, hp, hh', hz, hk⟩, st⟩ | ⟨q, st₀, t, T', L, E, ce, h0, X', hL, e1, e2, ⟨h', hp, hh', ⟨hz, hk⟩, hmo⟩, hce, hcv, hcl, st⟩
  · cases hv
    rw [h0] at hz hk
    obtain ⟨t2, a1, b1⟩ := kk v h' T'.heap (locs ++ L) hp (by rw [e1]; exact hh'.weaken hsub)
      ⟨Nat.le_trans hS.1 (by rw [e1]; exact hz), fun q h1 h2 => by rw [e1, hk q (Nat.lt_of_lt_of_le h1 hS.1) (fun z => h2 (hsub q z))]; exact hS.2.1 q h1 h2, fun q hq => by
        rcases List.mem_append.mp hq with h | h
        · exact hS.2.2 q h
        · exact hsub _ (hL q h)⟩ T' rfl X'
    exact ⟨t2, st t2 a1, b1⟩
  · rw [h0] at hz hk
    obtain ⟨t2, a1, b1⟩ := kx E q h' T'.heap (locs ++ L) ce hp (by rw [e1]; exact hh'.weaken hsub)
      ⟨Nat.le_trans hS.1 (by rw [e1]; exact hz), fun q h1 h2 => by rw [e1, hk q (Nat.lt_of_lt_of_le h1 hS.1) (fun z => h2 (hsub q z))]; exact hS.2.1 q h1 h2, fun q hq => by
        rcases List.mem_append.mp hq with h | h
        · exact hS.2.2 q h
        · exact hsub _ (hL q h)⟩ (by rw [e1]; exact hce) hcv hcl (fun e => by rw [e1]; exact hmo e) T' rfl X'
    exact ⟨t2, st.trans a1, b1⟩
theorem J_callVR (X : Cx l D cc own nL rm Γ) {b ci N : Nat} {T : u_T} {fs : List Value} (d : At cc pc (.invokevirtual ix) 3 nx) (hC : Ct l D y cc' nL' ret rm' (.ref b :: As) h Post) (hg : GoodIn lw_all (wsV own ix y.cls y (ws_ y cc' nL' ret))) {na : Nat} (hd2 : okY y na) (hna : As.length = na) (hbr : rd D h b (eo ci fs)) (hc : vwCl[ci]? = some (y.cls, T, N)) (hR : rm'.frames + 1 ≤ rm.frames ∧ 8 + (nL' + 11) + rm'.locals ≤ rm.locals) (hs : st = As.reverse ++ .ref b :: rest) (hst : (rest.map fun v => v.category).sum ≤ 8) (hk : k + rm'.cells ≤ rm.cells) (hn : n + rm'.slots ≤ rm.slots)
    (kk : ∀ (v : Option Value) (h' : PH), Post v h' → J Γ h' (k + rm'.cells) (n + rm'.slots) nx lv (v.toList ++ rest)) : J Γ h k n pc lv st := by
  obtain ⟨p, l', e, R, s, m, args, below, meth, co, D', A, Q⟩ := Γ
  obtain ⟨rfl, rfl, rfl, hx, hb2, hml, hown, hts, hK, hA, hlk, hE⟩ := X
  obtain ⟨hd, rfl⟩ := d
  intro H locs ls hh hS hl
  have hsub := dm_in hh hA hS.1
  exact J_after (va_runV (As := As) (rest := rest) (C := y.cls) ⟨hx, hb2, hml, hown, hts⟩ (hC H.size) (cwV na hts hg rfl rfl rfl ⟨rfl, hd2⟩ hR) ⟨Pv.blind, hbr.recv hK hh hE hS hc, fun U hU hW => ⟨rfl, Pv.to hh hS hA hK hE hU hW⟩⟩ rfl hna (by rw [← hml]; exact hl.1) hs (lv_room hst) hd ⟨hk, hn⟩) hS hsub (fun v h' H1 locs1 hp hh1 hS1 => kk v h' hp H1 locs1 ls hh1 hS1 hl)
theorem J_callVX (X : Cx l D cc own nL rm Γ) {b ci N : Nat} {T : u_T} {fs : List Value} (d : At cc pc (.invokevirtual ix) 3 nx) (hC : Cq l D y (ws_ y cc' nL' ret) rm' (.ref b :: As) h Post PostX) (hg : GoodIn lw_all (wsV own ix y.cls y (ws_ y cc' nL' ret))) {na : Nat} (hd2 : okY y na) (hna : As.length = na) (hbr : rd D h b (eo ci fs)) (hc : vwCl[ci]? = some (y.cls, T, N)) (hR : rm'.frames + 1 ≤ rm.frames ∧ 8 + (nL' + 11) + rm'.locals ≤ rm.locals) (hs : st = As.reverse ++ .ref b :: rest) (hst : (rest.map fun v => v.category).sum ≤ 8) (hk : k + rm'.cells ≤ rm.cells) (hn : n + rm'.slots ≤ rm.slots)
    (kk : ∀ (v : Option Value) (h' : PH), Post v h' → J Γ h' (k + rm'.cells) (n + rm'.slots) nx lv (v.toList ++ rest)) (kx : ∀ (E : String) (q : Nat) (h' : PH), PostX E q h' → JX Γ h' (k + rm'.cells) (n + rm'.slots) pc lv E q) : J Γ h k n pc lv st := by
  obtain ⟨p, l', e, R, s, m, args, below, meth, co, D', A, Q⟩ := Γ
  obtain ⟨rfl, rfl, rfl, hx, hb2, hml, hown, hts, hK, hA, hlk, hE⟩ := X
  obtain ⟨hd, rfl⟩ := d
  intro H locs ls hh hS hl
  have hsub := dm_in hh hA hS.1
  exact JX_after (vx_runV (As := As) (rest := rest) (C := y.cls) ⟨hx, hb2, hml, hown, hts⟩ (hC H.size) (cwV na hts hg rfl rfl rfl ⟨rfl, hd2⟩ hR) ⟨Pv.blind, hbr.recv hK hh hE hS hc, fun U hU hW => ⟨rfl, Pv.to hh hS hA hK hE hU hW⟩⟩ rfl hna (by rw [← hml]; exact hl.1) hs (lv_room hst) hd ⟨hk, hn⟩) hS hsub (fun v h' H1 locs1 hp hh1 hS1 => kk v h' hp H1 locs1 ls hh1 hS1 hl) (fun E q h' H1 locs1 ce hp hh1 hS1 h1 h2 h3 h4 => kx E q h' hp H1 locs1 ls rest ce hh1 hS1 hl h1 h2 h3 h4)
theorem J_callVW (X : Cx l D cc own nL rm Γ) {b ci N : Nat} {T : u_T} {fs : List Value} {th : List (Nat × Nat × Nat × Nat)} (d : At cc pc (.invokevirtual ix) 3 nx) (hC : Cq l D y (wsW y cc' nL' ret th) rm' (.ref b :: As) h Post PostX) (hg : GoodIn lw_all (wsV own ix y.cls y (wsW y cc' nL' ret th))) {na : Nat} (hd2 : okY y na) (hna : As.length = na) (hbr : rd D h b (eo ci fs)) (hc : vwCl[ci]? = some (y.cls, T, N)) (hR : rm'.frames + 1 ≤ rm.frames ∧ 8 + (nL' + 11) + rm'.locals ≤ rm.locals) (hs : st = As.reverse ++ .ref b :: rest) (hst : (rest.map fun v => v.category).sum ≤ 8) (hk : k + rm'.cells ≤ rm.cells) (hn : n + rm'.slots ≤ rm.slots)
    (kk : ∀ (v : Option Value) (h' : PH), Post v h' → J Γ h' (k + rm'.cells) (n + rm'.slots) nx lv (v.toList ++ rest)) (kx : ∀ (E : String) (q : Nat) (h' : PH), PostX E q h' → JX Γ h' (k + rm'.cells) (n + rm'.slots) pc lv E q) : J Γ h k n pc lv st := by
  obtain ⟨p, l', e, R, s, m, args, below, meth, co, D', A, Q⟩ := Γ
  obtain ⟨rfl, rfl, rfl, hx, hb2, hml, hown, hts, hK, hA, hlk, hE⟩ := X
  obtain ⟨hd, rfl⟩ := d
  intro H locs ls hh hS hl
  have hsub := dm_in hh hA hS.1
  exact JX_after (vx_runVX (As := As) (rest := rest) (C := y.cls) ⟨hx, hb2, hml, hown, hts⟩ (hC H.size) (vx_cwVW na hts hg rfl rfl rfl ⟨rfl, hd2⟩ hR) ⟨Pv.blind, hbr.recv hK hh hE hS hc, fun U hU hW => ⟨rfl, Pv.to hh hS hA hK hE hU hW⟩⟩ rfl hna (by rw [← hml]; exact hl.1) hs (lv_room hst) hd ⟨hk, hn⟩) hS hsub (fun v h' H1 locs1 hp hh1 hS1 => kk v h' hp H1 locs1 ls hh1 hS1 hl) (fun E q h' H1 locs1 ce hp hh1 hS1 h1 h2 h3 h4 => kx E q h' hp H1 locs1 ls rest ce hh1 hS1 hl h1 h2 h3 h4)
theorem J_callSX (X : Cx l D cc own nL rm Γ)  (d : At cc pc (.invokestatic ix) 3 nx) (hC : Cq l D y (ws_ y cc' nL' ret) rm' As h Post PostX) (hg : GoodIn lw_all (va_wsS own ix y (ws_ y cc' nL' ret))) {na : Nat} (hd2 : okY y na) (hna : As.length = na) (hR : rm'.frames + 1 ≤ rm.frames ∧ 8 + (nL' + 11) + rm'.locals ≤ rm.locals) (hs : st = As.reverse ++ rest) (hst : (rest.map fun v => v.category).sum ≤ 8) (hk : k + rm'.cells ≤ rm.cells) (hn : n + rm'.slots ≤ rm.slots)
    (kk : ∀ (v : Option Value) (h' : PH), Post v h' → J Γ h' (k + rm'.cells) (n + rm'.slots) nx lv (v.toList ++ rest)) (kx : ∀ (E : String) (q : Nat) (h' : PH), PostX E q h' → JX Γ h' (k + rm'.cells) (n + rm'.slots) pc lv E q) : J Γ h k n pc lv st := by
  obtain ⟨p, l', e, R, s, m, args, below, meth, co, D', A, Q⟩ := Γ
  obtain ⟨rfl, rfl, rfl, hx, hb2, hml, hown, hts, hK, hA, hlk, hE⟩ := X
  obtain ⟨hd, rfl⟩ := d
  intro H locs ls hh hS hl
  have hsub := dm_in hh hA hS.1
  exact JX_after (vx_runS (As := As) (rest := rest) ⟨hx, hb2, hml, hown, hts⟩ (hC H.size) (va_cwS na hts hg rfl rfl rfl hd2 hR) ⟨Pv.blind, fun U hU hW => ⟨rfl, Pv.to hh hS hA hK hE hU hW⟩⟩ rfl hna (by rw [← hml]; exact hl.1) hs (lv_room hst) hd ⟨hk, hn⟩) hS hsub (fun v h' H1 locs1 hp hh1 hS1 => kk v h' hp H1 locs1 ls hh1 hS1 hl) (fun E q h' H1 locs1 ce hp hh1 hS1 h1 h2 h3 h4 => kx E q h' hp H1 locs1 ls rest ce hh1 hS1 hl h1 h2 h3 h4)
theorem J_callSN (X : Cx l D cc own nL rm Γ) {host : String} (d : At cc pc (.invokestatic ix) 3 nx) (hC : Ct l D y cc' nL' ret rm' As h Post) (hg : GoodIn lw_all (ws_ y cc' nL' ret)) (hini : Cond.initialized y.cls ∈ lw_all) (hl1 : Cond.methodLinkNest own ix y host ∈ lw_tbl) (hst2 : Cond.static y ∈ lw_all) {na : Nat} (hd2 : okY y na) (hna : As.length = na) (hR : rm'.frames + 1 ≤ rm.frames ∧ 8 + (nL' + 11) + rm'.locals ≤ rm.locals) (hs : st = As.reverse ++ rest) (hst : (rest.map fun v => v.category).sum ≤ 8) (hk : k + rm'.cells ≤ rm.cells) (hn : n + rm'.slots ≤ rm.slots)
    (kk : ∀ (v : Option Value) (h' : PH), Post v h' → J Γ h' (k + rm'.cells) (n + rm'.slots) nx lv (v.toList ++ rest)) : J Γ h k n pc lv st := by
  obtain ⟨p, l', e, R, s, m, args, below, meth, co, D', A, Q⟩ := Γ
  obtain ⟨rfl, rfl, rfl, hx, hb2, hml, hown, hts, hK, hA, hlk, hE⟩ := X
  obtain ⟨hd, rfl⟩ := d
  intro H locs ls hh hS hl
  have hsub := dm_in hh hA hS.1
  exact J_after (va_runSN (As := As) (rest := rest) ⟨hx, hb2, hml, hown, hts⟩ (hC H.size) (⟨va_cnB na hts hg rfl rfl rfl (hE.tw _ hl1 rfl) (hts _ hini) hd2 hR, hts _ hst2, trivial⟩) ⟨Pv.blind, fun U hU hW => ⟨rfl, Pv.to hh hS hA hK hE hU hW⟩⟩ rfl hna (by rw [← hml]; exact hl.1) hs (lv_room hst) hd ⟨hk, hn⟩) hS hsub (fun v h' H1 locs1 hp hh1 hS1 => kk v h' hp H1 locs1 ls hh1 hS1 hl)
theorem J_callSNX (X : Cx l D cc own nL rm Γ) {host : String} (d : At cc pc (.invokestatic ix) 3 nx) (hC : Cq l D y (ws_ y cc' nL' ret) rm' As h Post PostX) (hg : GoodIn lw_all (ws_ y cc' nL' ret)) (hini : Cond.initialized y.cls ∈ lw_all) (hl1 : Cond.methodLinkNest own ix y host ∈ lw_tbl) (hst2 : Cond.static y ∈ lw_all) {na : Nat} (hd2 : okY y na) (hna : As.length = na) (hR : rm'.frames + 1 ≤ rm.frames ∧ 8 + (nL' + 11) + rm'.locals ≤ rm.locals) (hs : st = As.reverse ++ rest) (hst : (rest.map fun v => v.category).sum ≤ 8) (hk : k + rm'.cells ≤ rm.cells) (hn : n + rm'.slots ≤ rm.slots)
    (kk : ∀ (v : Option Value) (h' : PH), Post v h' → J Γ h' (k + rm'.cells) (n + rm'.slots) nx lv (v.toList ++ rest)) (kx : ∀ (E : String) (q : Nat) (h' : PH), PostX E q h' → JX Γ h' (k + rm'.cells) (n + rm'.slots) pc lv E q) : J Γ h k n pc lv st := by
  obtain ⟨p, l', e, R, s, m, args, below, meth, co, D', A, Q⟩ := Γ
  obtain ⟨rfl, rfl, rfl, hx, hb2, hml, hown, hts, hK, hA, hlk, hE⟩ := X
  obtain ⟨hd, rfl⟩ := d
  intro H locs ls hh hS hl
  have hsub := dm_in hh hA hS.1
  exact JX_after (vx_runSN (As := As) (rest := rest) ⟨hx, hb2, hml, hown, hts⟩ (hC H.size) (⟨va_cnB na hts hg rfl rfl rfl (hE.tw _ hl1 rfl) (hts _ hini) hd2 hR, hts _ hst2, trivial⟩) ⟨Pv.blind, fun U hU hW => ⟨rfl, Pv.to hh hS hA hK hE hU hW⟩⟩ rfl hna (by rw [← hml]; exact hl.1) hs (lv_room hst) hd ⟨hk, hn⟩) hS hsub (fun v h' H1 locs1 hp hh1 hS1 => kk v h' hp H1 locs1 ls hh1 hS1 hl) (fun E q h' H1 locs1 ce hp hh1 hS1 h1 h2 h3 h4 => kx E q h' hp H1 locs1 ls rest ce hh1 hS1 hl h1 h2 h3 h4)
theorem J_callVN (X : Cx l D cc own nL rm Γ) {b ci N : Nat} {T : u_T} {fs : List Value} {host : String} (d : At cc pc (.invokevirtual ix) 3 nx) (hC : Ct l D y cc' nL' ret rm' (.ref b :: As) h Post) (hg : GoodIn lw_all (ws_ y cc' nL' ret)) (hini : Cond.initialized y.cls ∈ lw_all) (hl1 : Cond.methodLinkNest own ix y host ∈ lw_tbl) (hin : Cond.instanceMethod y ∈ lw_all) (hsel : Cond.selects y.cls y y ∈ lw_all) {na : Nat} (hd2 : okY y na) (hna : As.length = na) (hbr : rd D h b (eo ci fs)) (hc : vwCl[ci]? = some (y.cls, T, N)) (hR : rm'.frames + 1 ≤ rm.frames ∧ 8 + (nL' + 11) + rm'.locals ≤ rm.locals) (hs : st = As.reverse ++ .ref b :: rest) (hst : (rest.map fun v => v.category).sum ≤ 8) (hk : k + rm'.cells ≤ rm.cells) (hn : n + rm'.slots ≤ rm.slots)
    (kk : ∀ (v : Option Value) (h' : PH), Post v h' → J Γ h' (k + rm'.cells) (n + rm'.slots) nx lv (v.toList ++ rest)) : J Γ h k n pc lv st := by
  obtain ⟨p, l', e, R, s, m, args, below, meth, co, D', A, Q⟩ := Γ
  obtain ⟨rfl, rfl, rfl, hx, hb2, hml, hown, hts, hK, hA, hlk, hE⟩ := X
  obtain ⟨hd, rfl⟩ := d
  intro H locs ls hh hS hl
  have hsub := dm_in hh hA hS.1
  exact J_after (va_runVN (As := As) (rest := rest) (C := y.cls) ⟨hx, hb2, hml, hown, hts⟩ (hC H.size) (⟨va_cnB na hts hg rfl rfl rfl (hE.tw _ hl1 rfl) (hts _ hini) hd2 hR, hts _ hin, hts _ hsel⟩) ⟨Pv.blind, hbr.recv hK hh hE hS hc, fun U hU hW => ⟨rfl, Pv.to hh hS hA hK hE hU hW⟩⟩ rfl hna (by rw [← hml]; exact hl.1) hs (lv_room hst) hd ⟨hk, hn⟩) hS hsub (fun v h' H1 locs1 hp hh1 hS1 => kk v h' hp H1 locs1 ls hh1 hS1 hl)
/-- inherited -/
theorem J_callU (X : Cx l D cc own nL rm Γ) {b ci N : Nat} {T : u_T} {fs : List Value} {x : MethodName} {owner C : String} (d : At cc pc (.invokevirtual ix) 3 nx) (hC : Ct l D y cc' nL' ret rm' (.ref b :: As) h Post) (hg : GoodIn lw_all (va_wsU own ix C owner x y (ws_ y cc' nL' ret))) (hyx : y = ⟨owner, x.name, x.desc⟩) {na : Nat} (hd2 : owner ≠ "java/lang/invoke/MethodHandle" ∧ owner ≠ "java/lang/invoke/VarHandle" ∧ (parseMethodDescriptor x.desc).map (fun d => d.parameters.length) = some na) (hna : As.length = na) (hbr : rd D h b (eo ci fs)) (hc : vwCl[ci]? = some (C, T, N)) (hR : rm'.frames + 1 ≤ rm.frames ∧ 8 + (nL' + 11) + rm'.locals ≤ rm.locals) (hs : st = As.reverse ++ .ref b :: rest) (hst : (rest.map fun v => v.category).sum ≤ 8) (hk : k + rm'.cells ≤ rm.cells) (hn : n + rm'.slots ≤ rm.slots)
    (kk : ∀ (v : Option Value) (h' : PH), Post v h' → J Γ h' (k + rm'.cells) (n + rm'.slots) nx lv (v.toList ++ rest)) : J Γ h k n pc lv st := by
  obtain ⟨p, l', e, R, s, m, args, below, meth, co, D', A, Q⟩ := Γ
  obtain ⟨rfl, rfl, rfl, hx, hb2, hml, hown, hts, hK, hA, hlk, hE⟩ := X
  obtain ⟨hd, rfl⟩ := d
  intro H locs ls hh hS hl
  have hsub := dm_in hh hA hS.1
  exact J_after (va_runU (As := As) (rest := rest) ⟨hx, hb2, hml, hown, hts⟩ (hC H.size) (va_cwU na hts hg rfl rfl rfl hyx hd2 hR) ⟨Pv.blind, hbr.recv hK hh hE hS hc, fun U hU hW => ⟨rfl, Pv.to hh hS hA hK hE hU hW⟩⟩ rfl hna (by rw [← hml]; exact hl.1) hs (lv_room hst) hd ⟨hk, hn⟩) hS hsub (fun v h' H1 locs1 hp hh1 hS1 => kk v h' hp H1 locs1 ls hh1 hS1 hl)
/-- an abstract method, or one that is declared elsewhere -/
theorem J_callA (X : Cx l D cc own nL rm Γ) {b ci N : Nat} {T : u_T} {fs : List Value} {x : MethodName} {owner C : String} (d : At cc pc (.invokevirtual ix) 3 nx) (hC : Ct l D y cc' nL' ret rm' (.ref b :: As) h Post) (hg : GoodIn lw_all (va_wsU own ix C owner x y (ws_ y cc' nL' ret))) (hz : Cond.declares ⟨owner, x.name, x.desc⟩ ∈ lw_tbl) {na : Nat} (hd2 : owner ≠ "java/lang/invoke/MethodHandle" ∧ owner ≠ "java/lang/invoke/VarHandle" ∧ (parseMethodDescriptor x.desc).map (fun d => d.parameters.length) = some na) (hna : As.length = na) (hbr : rd D h b (eo ci fs)) (hc : vwCl[ci]? = some (C, T, N)) (hR : rm'.frames + 1 ≤ rm.frames ∧ 8 + (nL' + 11) + rm'.locals ≤ rm.locals) (hs : st = As.reverse ++ .ref b :: rest) (hst : (rest.map fun v => v.category).sum ≤ 8) (hk : k + rm'.cells ≤ rm.cells) (hn : n + rm'.slots ≤ rm.slots)
    (kk : ∀ (v : Option Value) (h' : PH), Post v h' → J Γ h' (k + rm'.cells) (n + rm'.slots) nx lv (v.toList ++ rest)) : J Γ h k n pc lv st := by
  obtain ⟨p, l', e, R, s, m, args, below, meth, co, D', A, Q⟩ := Γ
  obtain ⟨rfl, rfl, rfl, hx, hb2, hml, hown, hts, hK, hA, hlk, hE⟩ := X
  obtain ⟨hd, rfl⟩ := d
  intro H locs ls hh hS hl
  have hsub := dm_in hh hA hS.1
  exact J_after (va_runU (As := As) (rest := rest) ⟨hx, hb2, hml, hown, hts⟩ (hC H.size) (va_cwA na hts hg rfl rfl rfl (hE.tw _ hz rfl) hd2 hR) ⟨Pv.blind, hbr.recv hK hh hE hS hc, fun U hU hW => ⟨rfl, Pv.to hh hS hA hK hE hU hW⟩⟩ rfl hna (by rw [← hml]; exact hl.1) hs (lv_room hst) hd ⟨hk, hn⟩) hS hsub (fun v h' H1 locs1 hp hh1 hS1 => kk v h' hp H1 locs1 ls hh1 hS1 hl)
/-- an overriding method -/
theorem J_callO (X : Cx l D cc own nL rm Γ) {b ci N : Nat} {T : u_T} {fs : List Value} {x : MethodName} {owner C : String} {b0 : ByteArray} {m0 : Nat} {r0 : Option FieldType} (d : At cc pc (.invokevirtual ix) 3 nx) (hC : Ct l D y cc' nL' ret rm' (.ref b :: As) h Post) (hg : GoodIn lw_all (va_wsO own ix C owner x y (ws_ y cc' nL' ret))) (h0 : Cond.code ⟨owner, x.name, x.desc⟩ b0 m0 r0 ∈ lw_all) {na : Nat} (hd2 : owner ≠ "java/lang/invoke/MethodHandle" ∧ owner ≠ "java/lang/invoke/VarHandle" ∧ (parseMethodDescriptor x.desc).map (fun d => d.parameters.length) = some na) (hna : As.length = na) (hbr : rd D h b (eo ci fs)) (hc : vwCl[ci]? = some (C, T, N)) (hR : rm'.frames + 1 ≤ rm.frames ∧ 8 + (nL' + 11) + rm'.locals ≤ rm.locals) (hs : st = As.reverse ++ .ref b :: rest) (hst : (rest.map fun v => v.category).sum ≤ 8) (hk : k + rm'.cells ≤ rm.cells) (hn : n + rm'.slots ≤ rm.slots)
    (kk : ∀ (v : Option Value) (h' : PH), Post v h' → J Γ h' (k + rm'.cells) (n + rm'.slots) nx lv (v.toList ++ rest)) : J Γ h k n pc lv st := by
  obtain ⟨p, l', e, R, s, m, args, below, meth, co, D', A, Q⟩ := Γ
  obtain ⟨rfl, rfl, rfl, hx, hb2, hml, hown, hts, hK, hA, hlk, hE⟩ := X
  obtain ⟨hd, rfl⟩ := d
  intro H locs ls hh hS hl
  have hsub := dm_in hh hA hS.1
  exact J_after (va_runU (As := As) (rest := rest) ⟨hx, hb2, hml, hown, hts⟩ (hC H.size) (va_cwO na hts hg rfl rfl rfl h0 hd2 hR) ⟨Pv.blind, hbr.recv hK hh hE hS hc, fun U hU hW => ⟨rfl, Pv.to hh hS hA hK hE hU hW⟩⟩ rfl hna (by rw [← hml]; exact hl.1) hs (lv_room hst) hd ⟨hk, hn⟩) hS hsub (fun v h' H1 locs1 hp hh1 hS1 => kk v h' hp H1 locs1 ls hh1 hS1 hl)
/-- through an interface -/
theorem J_callF (X : Cx l D cc own nL rm Γ) {b ci N : Nat} {T : u_T} {fs : List Value} {x : MethodName} {C : String} {cnt : Nat} (d : At cc pc (.invokeinterface ix cnt) 5 nx) (hC : Ct l D y cc' nL' ret rm' (.ref b :: As) h Post) (hg : GoodIn lw_all (va_wsF own ix C x y (ws_ y cc' nL' ret))) (hf : (C, x, y) ∈ fwl) {na : Nat} (hd2 : x.cls ≠ "java/lang/invoke/MethodHandle" ∧ x.cls ≠ "java/lang/invoke/VarHandle" ∧ (parseMethodDescriptor x.desc).map (fun d => d.parameters.length) = some na) (hna : As.length = na) (hbr : rd D h b (eo ci fs)) (hc : vwCl[ci]? = some (C, T, N)) (hR : rm'.frames + 1 ≤ rm.frames ∧ 8 + (nL' + 11) + rm'.locals ≤ rm.locals) (hs : st = As.reverse ++ .ref b :: rest) (hst : (rest.map fun v => v.category).sum ≤ 8) (hk : k + rm'.cells ≤ rm.cells) (hn : n + rm'.slots ≤ rm.slots)
    (kk : ∀ (v : Option Value) (h' : PH), Post v h' → J Γ h' (k + rm'.cells) (n + rm'.slots) nx lv (v.toList ++ rest)) : J Γ h k n pc lv st := by
  obtain ⟨p, l', e, R, s, m, args, below, meth, co, D', A, Q⟩ := Γ
  obtain ⟨rfl, rfl, rfl, hx, hb2, hml, hown, hts, hK, hA, hlk, hE⟩ := X
  obtain ⟨hd, rfl⟩ := d
  intro H locs ls hh hS hl
  have hsub := dm_in hh hA hS.1
  exact J_after5 (va_runF (As := As) (rest := rest) (hK.1 ci _ hc).2 ⟨hx, hb2, hml, hown, hts⟩ (hC H.size) (va_cwF na hts hg rfl rfl rfl (hE.2.1 _ hf) hd2 hR) ⟨Pv.blind, hbr.recv hK hh hE hS hc, fun U hU hW => ⟨rfl, Pv.to hh hS hA hK hE hU hW⟩⟩ rfl hna (by rw [← hml]; exact hl.1) hs (lv_room hst) hd ⟨hk, hn⟩) hS hsub (fun v h' H1 locs1 hp hh1 hS1 => kk v h' hp H1 locs1 ls hh1 hS1 hl)
/-- the superclass's method -/
theorem J_callSU (X : Cx l D cc own nL rm Γ) {b ci N : Nat} {T : u_T} {fs : List Value} {C : String} (d : At cc pc (.invokespecial ix) 3 nx) (hC : Ct l D y cc' nL' ret rm' (.ref b :: As) h Post) (hg : GoodIn lw_all (va_wsSU own ix y (ws_ y cc' nL' ret))) {na : Nat} (hd2 : y.name ≠ "<init>" ∧ (parseMethodDescriptor y.desc).map (fun d => d.parameters.length) = some na) (hna : As.length = na) (hbr : rd D h b (eo ci fs)) (hc : vwCl[ci]? = some (C, T, N)) (hR : rm'.frames + 1 ≤ rm.frames ∧ 8 + (nL' + 11) + rm'.locals ≤ rm.locals) (hs : st = As.reverse ++ .ref b :: rest) (hst : (rest.map fun v => v.category).sum ≤ 8) (hk : k + rm'.cells ≤ rm.cells) (hn : n + rm'.slots ≤ rm.slots)
    (kk : ∀ (v : Option Value) (h' : PH), Post v h' → J Γ h' (k + rm'.cells) (n + rm'.slots) nx lv (v.toList ++ rest)) : J Γ h k n pc lv st := by
  obtain ⟨p, l', e, R, s, m, args, below, meth, co, D', A, Q⟩ := Γ
  obtain ⟨rfl, rfl, rfl, hx, hb2, hml, hown, hts, hK, hA, hlk, hE⟩ := X
  obtain ⟨hd, rfl⟩ := d
  intro H locs ls hh hS hl
  have hsub := dm_in hh hA hS.1
  exact J_after (va_runSU (As := As) (rest := rest) (hK.1 ci _ hc).2 ⟨hx, hb2, hml, hown, hts⟩ (hC H.size) (va_cwSU na hts hg rfl rfl rfl hd2 hR) ⟨Pv.blind, hbr.recv hK hh hE hS hc, fun U hU hW => ⟨rfl, Pv.to hh hS hA hK hE hU hW⟩⟩ rfl hna (by rw [← hml]; exact hl.1) hs (lv_room hst) hd ⟨hk, hn⟩) hS hsub (fun v h' H1 locs1 hp hh1 hS1 => kk v h' hp H1 locs1 ls hh1 hS1 hl)
end JK2
