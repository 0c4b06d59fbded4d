/-! throwing: the judgement JX, contracts that may throw, catching -/
set_option maxRecDepth 100000
def Tb (hh : List (Nat × Nat × Nat × Nat)) (Γ : Cxt) : Prop := match Γ with
  | (_, _, _, _, _, _, _, _, _, c, _, _, _) => c.exceptionTable.toList = tableOf hh
/-- the monitor of q is free -/
def mon (H : Heap) (q : Nat) : Prop := ∀ c : Cell, H[q]? = some c → c.monitor = {}
/-- q, of class E, is thrown over the method's frame at pc -/
def JX (Γ : Cxt) (h : PH) (k n pc : Nat) (lv : List (Nat × Value)) (E : String) (q : Nat) : Prop :=
  match Γ with
  | (p, l, e, R, s, m, args, below, meth, c, D, A, Q) => ∀ (H : Heap) (locs : List Loc) (ls : Array Slot) (rest : List Value) (ce : Cell), hw D A h H → va_S A s.heap H locs → lv_has ls c.maxLocals lv → H[q]? = some ce → ce.vm = .none → s.vm.findClass E = some ce.cls → (E = "LeadRaces$Fault" → mon H q) → vx_W p l e R s m args below meth c H locs k n Q (F0 m pc ls rest) q
def XCp (D : va_G) (A : Nat → Prop) (PostX : String → Nat → PH → Prop) : Addr → String → State → State → Prop := fun q E st t => ∃ h' : PH, PostX E q h' ∧ hw D A h' t.heap ∧ va_F A st t ∧ (E = "LeadRaces$Fault" → mon t.heap q)
/-- a throw with a heap of PostX is an end that is owed -/
def Rx (PostX : String → Nat → PH → Prop) (Γ : Cxt) : Prop := match Γ with
  | (_, _, _, R, s, _, args, below, _, _, D, A, Q) => ∃ Qc : Array Value → State → Outcome → State → Prop, Q = vx_MQ below Qc (XCp D A PostX) args s R.cells R.slots A
/-- A CONTRACT that may throw: ws is the list of its words -/
def Cq (l : Launch) (D : va_G) (y : MethodName) (ws : List Cond) (rm : Room) (av : List Value) (h : PH) (Post : Option Value → PH → Prop) (PostX : String → Nat → PH → Prop) : Prop :=
  ∀ sz : Nat, vx_Met l y ws rm (va_Pc av (Pv D h sz)) (Qp D (dm h sz) Post) (XCp D (dm h sz) PostX) rm.cells rm.slots (dm h sz)
abbrev wsW (y : MethodName) (cc : ByteArray) (nL : Nat) (ret : Option FieldType) (hh : List (Nat × Nat × Nat × Nat)) : List Cond := Cond.codeWith y cc nL ret hh :: lw_all
theorem Cq.of {l : Launch} {D : va_G} {y : MethodName} {cc : ByteArray} {nL : Nat} {ret : Option FieldType} {rm : Room} {av : List Value} {h : PH} {Post : Option Value → PH → Prop} {PostX : String → Nat → PH → Prop} (hy : plainName y.cls = true) (hlen : Nat.ble (lg_sl av).length nL = true)
    (body : ∀ Γ : Cxt, Cx l D cc y.cls nL rm Γ → Rt ret Post Γ → Mn y.name Γ → Tb [] Γ → Rx PostX Γ → J Γ h 0 0 0 (lv_args 0 av) []) : Cq l D y (ws_ y cc nL ret) rm av h Post PostX := by
  intro sz
  refine vx_ofW (cc := cc) (maxL := nL) (ret := ret) hy rfl ?_
  intro p e s m args below meth c s₁ B hml htb hv
  obtain ⟨rfl, rfl, hP, hK, hE⟩ := hv
  have hts := atoms_spec (ws := ws_ y cc nL ret) B.pre
  have hts : ∀ w ∈ lw_all, w.before _ s = true := fun w h => hts w (List.mem_cons_of_mem _ h)
  have hown : s.vm.findClass y.cls = some m.cls := findClass_of_methodNamed B.named
  have hin : meth.name = y.name := (name_of_methodNamed B.named B.method).1
  have hl := lv_entry av (n := nL) (Nat.le_of_ble_eq_true hlen)
  have htb0 : c.exceptionTable.toList = tableOf [] := by
    cases hx : c.exceptionTable.toList with
    | nil => rfl
    | cons z w => exact absurd (htb z (by rw [hx]; exact List.mem_cons_self)) id
  have hb := body (p, l, e, (headSpec (ws_ y cc nL ret) rm).room, s, m, av.toArray, below, meth, c, D, dm h s.heap.size, vx_MQ below (Qp D (dm h s.heap.size) Post) (XCp D (dm h s.heap.size) PostX) av.toArray s rm.cells rm.slots (dm h s.heap.size))
    ⟨rfl, rfl, rfl, B.exec, B.bytes, hml, hown, hts, hK, fun q hq => Or.inr hq, B.notSynchronized, hE⟩ ⟨B.returns, fun H locs g k => vx_ret k⟩ hin htb0 ⟨_, rfl⟩
  rw [lg_entry_eq]
  exact hb s.heap [] _ hP.self va_S.rf (by rw [hml]; exact hl)
theorem Cq.ofW {l : Launch} {D : va_G} {y : MethodName} {cc : ByteArray} {nL : Nat} {ret : Option FieldType} {hh : List (Nat × Nat × Nat × Nat)} {rm : Room} {av : List Value} {h : PH} {Post : Option Value → PH → Prop} {PostX : String → Nat → PH → Prop} (hy : plainName y.cls = true) (hlen : Nat.ble (lg_sl av).length nL = true)
    (body : ∀ Γ : Cxt, Cx l D cc y.cls nL rm Γ → Rt ret Post Γ → Mn y.name Γ → Tb hh Γ → Rx PostX Γ → J Γ h 0 0 0 (lv_args 0 av) []) : Cq l D y (wsW y cc nL ret hh) rm av h Post PostX := by
  intro sz
  refine vx_ofWH (cc := cc) (maxL := nL) (ret := ret) hy rfl ?_
  intro p e s m args below meth c s₁ B hml hv
  obtain ⟨rfl, rfl, hP, hK, hE⟩ := hv
  have hts := atoms_spec (ws := wsW y cc nL ret hh) B.pre
  have htb : c.exceptionTable.toList = tableOf hh := vx_table (x := y) (y := y) (bytes := cc) (maxL' := nL) (ret' := ret) B (hts _ List.mem_cons_self)
  have hts : ∀ w ∈ lw_all, w.before _ s = true := fun w h => hts w (List.mem_cons_of_mem _ h)
  have hown : s.vm.findClass y.cls = some m.cls := findClass_of_methodNamed B.named
  have hin : meth.name = y.name := (name_of_methodNamed B.named B.method).1
  have hl := lv_entry av (n := nL) (Nat.le_of_ble_eq_true hlen)
  have hb := body (p, l, e, (headSpec (wsW y cc nL ret hh) rm).room, s, m, av.toArray, below, meth, c, D, dm h s.heap.size, vx_MQ below (Qp D (dm h s.heap.size) Post) (XCp D (dm h s.heap.size) PostX) av.toArray s rm.cells rm.slots (dm h s.heap.size))
    ⟨rfl, rfl, rfl, B.exec, B.bytes, hml, hown, hts, hK, fun q hq => Or.inr hq, B.notSynchronized, hE⟩ ⟨B.returns, fun H locs g k => vx_ret k⟩ hin htb ⟨_, rfl⟩
  rw [lg_entry_eq]
  exact hb s.heap [] _ hP.self va_S.rf (by rw [hml]; exact hl)
section JT
variable {l : Launch} {D : va_G} {cc : ByteArray} {own : String} {nL : Nat} {rm : Room} {Γ : Cxt} {h : PH} {k n pc nx : Nat} {lv : List (Nat × Value)} {st rest : List Value} {E : String} {q : Nat} {PostX : String → Nat → PH → Prop} {hh : List (Nat × Nat × Nat × Nat)}
/-- not caught here -/
theorem JX_out (X : Cx l D cc own nL rm Γ) (hr : Rx PostX Γ) (ht : Tb hh Γ) (hno : ∀ x ∈ tableOf hh, covers x pc = false) (hk : k ≤ rm.cells) (hn : n ≤ rm.slots) (hp : PostX E q h) : JX Γ h k n pc lv E q := by
  obtain ⟨p, l', e, R, s, m, args, below, meth, co, D', A, Q⟩ := Γ
  obtain ⟨rfl, rfl, rfl, hx, hb, hml, hown, hts, hK, hA, hlk, hE⟩ := X
  obtain ⟨Qc, rfl⟩ := hr
  intro H locs ls rest ce hh1 hS hl hce hcv hcl hmo
  exact vx_out (by rw [show co.exceptionTable.toList = tableOf hh from ht]; exact hno) hlk hce hcv hcl (fun t ht2 _ => ⟨h, hp, by rw [ht2]; exact hh1, hS.F ht2, fun e => by rw [ht2]; exact hmo e⟩) hS.2.2 hk hn
/-- caught by the first row of the table -/
theorem JX_catch (X : Cx l D cc own nL rm Γ) {sp ep hp ct : Nat} {name : String} (ht : Tb ((sp, ep, hp, ct) :: hh) Γ) (hc : covers ⟨sp, ep, hp, ct⟩ pc = true) (h0 : ct ≠ 0) (hlink : Cond.classLink own ct name ∈ lw_all) (hca : Cond.castable E name ∈ lw_tbl)
    (kk : J Γ h k n hp lv [.ref q]) : JX Γ h k n pc lv E q := by
  obtain ⟨p, l', e, R, s, m, args, below, meth, co, D', A, Q⟩ := Γ
  obtain ⟨rfl, rfl, rfl, hx, hb, hml, hown, hts, hK, hA, hlk, hE⟩ := X
  intro H locs ls rest ce hh1 hS hl hce hcv hcl hmo
  exact vx_catch (name := name) hown [] ⟨sp, ep, hp, ct⟩ (tableOf hh) ht (fun z hz => nomatch hz) hc h0 (hts _ hlink) (va_any rfl (hE.tw _ hca rfl)) hce hcv hcl (kk H locs ls hh1 hS hl)
/-- 'throw x' -/
theorem J_athrow (X : Cx l D cc own nL rm Γ) {ci N : Nat} {T : u_T} {fs : List Value} (d : At cc pc .athrow 1 nx) (hq : h q = some (eo ci fs)) (hc : vwCl[ci]? = some (E, T, N)) (hE0 : E ≠ "LeadRaces$Fault") (kk : JX Γ h k n pc lv E q) : J Γ h k n pc lv (.ref q :: st) := by
  obtain ⟨p, l', e, R, s, m, args, below, meth, co, D', A, Q⟩ := Γ
  obtain ⟨rfl, rfl, rfl, hx, hb, hml, hown, hts, hK, hA, hlk, hE⟩ := X
  obtain ⟨hd, rfl⟩ := d
  intro H locs ls hh1 hS hl
  obtain ⟨r, hr, cell, g1, g2, g3, -⟩ := (hh1 q _ hq).1
  have hcl : s.vm.findClass E = some cell.cls := by rw [g2]; exact (hK.1 ci _ hc).2.1
  exact vx_athrow hx hb hd (kk H locs ls st cell hh1 hS hl g1 g3 hcl (fun e => absurd e hE0))
end JT
