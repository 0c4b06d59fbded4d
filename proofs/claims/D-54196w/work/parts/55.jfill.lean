/-! printed by gen/compw.py -/
set_option maxRecDepth 100000
def RJ13 : String := "java/lang/Throwable"
/-- what Throwable's static UNASSIGNED_STACK holds -/
def USt (r : Option Nat) (Γ : Cxt) : Prop := match Γ with
  | (_, _, _, _, s, _, _, _, _, _, _, A, _) => va_Z Bundle.tN "UNASSIGNED_STACK" Bundle.steD (va_rf r) A s s.heap
section JF
variable {l : Launch} {D : va_G} {cc : ByteArray} {own : String} {nL : Nat} {rm : Room} {Γ : Cxt} {h : PH} {k n pc nx q : Nat} {lv : List (Nat × Value)} {st rest : List Value}
theorem J_getstU (X : Cx l D cc RJ13 nL rm Γ) {ix : Nat} (d : At cc pc (.getstatic ix) 3 nx) (hlink : Cond.fieldLink RJ13 ix "java/lang/Throwable" "UNASSIGNED_STACK" "[Ljava/lang/StackTraceElement;" ∈ lw_all) (kk : ∀ r : Option Nat, USt r Γ → J Γ h k n nx lv (va_rf r :: st)) : J Γ h k n pc lv st := by
  obtain ⟨p, l', e, R, s, m, args, below, meth, co, D', A, Q⟩ := Γ
  obtain ⟨rfl, rfl, rfl, hx, hb, hml, hown, hts, hK, hA, hlk, hE⟩ := X
  obtain ⟨hd, rfl⟩ := d
  intro H locs ls hh hS hl
  obtain ⟨h1, h2, h3, h4, h5, h6, h7⟩ := hE
  rcases h7.2.2.2.1.1 with z | ⟨t, z⟩
  · exact va_gets hx hb z hS hown (hts _ hlink) (fun _ z => z) hd (kk none z H locs ls hh hS hl)
  · exact va_gets hx hb z hS hown (hts _ hlink) (fun _ z => z) hd (kk (some t) z H locs ls hh hS hl)
set_option maxHeartbeats 4000000 in
theorem J_fill (X : Cx l D cc RJ13 nL rm Γ) (hl9 : l.stackTraces = false) (hmo : Mo q Γ) {ci N : Nat} {C : String} {T : u_T} {fs : List Value} {r : Option Nat} (hc : vwCl[ci]? = some (C, T, N)) (h1 : T 1 = (Bundle.tN, "stackTrace", Bundle.steD, false)) (h4 : T 4 = (Bundle.tN, "backtrace", "Ljava/lang/Object;", false)) (hN : Nat.ble 5 N = true) (hin : ∀ w ∈ u_ws C T N, w ∈ lw_all)
    (hs0 : Cond.selects C Bundle.tFill0 Bundle.tFill0 ∈ lw_all) (hsF : Cond.selects C Bundle.tFill Bundle.tFill ∈ lw_all) (d : At cc pc (.invokevirtual 27) 3 nx) (hq : h q = some (eo ci fs)) (hu : USt r Γ) (hf1 : fs[1]? = some (va_rf r)) (hf4 : fs[4]? = some .null) (hfr : 2 < rm.frames) (hlo : 8 + 42 ≤ rm.locals) (hst : (st.map fun v => v.category).sum ≤ 8)
    (kk : J Γ h k n nx lv (.ref q :: st)) : J Γ h k n pc lv (.ref q :: st) := by
  have hN := Nat.le_of_ble_eq_true hN
  obtain ⟨p, l', e, R, s, m, args, below, meth, co, D', A, Q⟩ := Γ
  obtain ⟨rfl, rfl, rfl, hx, hb, hml, hown, hts, hK, hA, hlk, hE⟩ := X
  obtain ⟨hd, rfl⟩ := d
  intro H locs ls hh hS hl T0 hT X2
  obtain ⟨r0, hr0, cell, g1, g2, g3, g4⟩ := (hh q _ hq).1
  cases Option.some.inj (hr0.symm.trans hc)
  have hmon : cell.monitor = {} := (mon_stand X2 hmo.1 hmo.2) cell (by rw [hT]; exact g1)
  have htr : e.platform.stackTraces = false := (show e.platform.stackTraces = l'.stackTraces by rw [X2.admits.platform]).trans hl9
  have howns : e.platform.frameOwnsMonitors = true := by rw [X2.admits.platform]
  have hfin : e.platform.finalization = false := by rw [X2.admits.platform]
  have hpl : e.platform.magicAccessors = ({} : Platform).magicAccessors := by rw [X2.admits.platform]
  obtain ⟨-, -, -, -, -, -, h7⟩ := hE
  obtain ⟨Tc, Z0, L, -, Y⟩ := ThrowableC.of_atoms (args := args) (pl := e.platform) howns hfin hpl (thr_words hts h7.2.2.2.1.2.word h7.2.2.2.2.1.2.word)
  obtain ⟨cf, kf, fi, f, aU, cellU, u1, u2, u3, u4, u5, u6, u7, u8⟩ := hu
  cases Option.some.inj (u1.symm.trans Y.unassigned)
  cases Option.some.inj (u4.symm.trans L.statics)
  have hcellS : H[Tc.aS]? = some cellU := (hS.2.1 _ (Array.getElem?_eq_some_iff.mp u5).1 u8).trans u5
  have hneS : Tc.aS ≠ q := fun z => by
    rw [z, g1] at hcellS
    rw [← Option.some.inj hcellS, g3] at u6
    cases u6
  have hKn := hK.1 ci _ hc
  obtain ⟨hfc, kC, hkC, hkind⟩ := hKn.2
  obtain ⟨cS, kS, iS, fS, hiS, esS⟩ := hKn.1 1 (by show 1 < N; omega)
  obtain ⟨cB, kB, iB, fB0, hiB, esB⟩ := hKn.1 4 (by show 4 < N; omega)
  have fact := u_facts hfc hkC (u_lays hts hin (show 1 < N by omega)) hiS
  have hiS2 : s.fieldFound? Bundle.tN "stackTrace" Bundle.steD = some (cS, kS, iS, fS) := by rw [show (C, T, N).2.1 = T from rfl, h1] at hiS; exact hiS
  have hiB2 : s.fieldFound? Bundle.tN "backtrace" "Ljava/lang/Object;" = some (cB, kB, iB, fB0) := by rw [show (C, T, N).2.1 = T from rfl, h4] at hiB; exact hiB
  cases Option.some.inj (hiS2.symm.trans Y.stack)
  have hvS : cell.slots[Tc.fStack.slot]? = some (va_rf r) := by
    rw [esS, g4 1 (by show 1 < N; omega)]
    simp [vp_V, hf1]
  obtain ⟨ci198, i198, fB, hk198, hg198, ha198, hsB, -, hnB, htB, hffB⟩ := Cond.ownField (t := .object "java/lang/Object") Y.found L.cls (by decide +kernel) (hts _ q451) (hts _ q450) e.platform hpl
  cases Option.some.inj (hiB2.symm.trans hffB)
  have hvB : cell.slots[fB0.slot]? = some .null := by
    rw [esB, g4 4 (by show 4 < N; omega)]
    simp [vp_V, hf4]
  have hisr : (va_rf r).isRef = true := by cases r <;> rfl
  obtain ⟨-, q2⟩ := Takes.of_laid (v := va_rf r) hkC hkind fact.2.2 (by rw [Y.stackType]; cases r <;> rfl)
  have htS : Jvm.Takes s cell Tc.fStack (va_rf r) := ⟨(Array.getElem?_eq_some_iff.mp hvS).1, by rw [g2, g3]; exact q2⟩
  have hsel0 : selectMethod e.platform s.vm cell.cls Tc.fill0 = .method Tc.fill0 := by
    obtain ⟨c2, r2, m2, w1, w2, w3, w4, -⟩ := Cond.selects_spec (hts _ hs0)
    cases Option.some.inj (w1.symm.trans hfc)
    cases Option.some.inj (w2.symm.trans (State.methodFound?_of_named Y.fill0 (by decide)))
    cases Option.some.inj (w3.symm.trans Y.fill0)
    rw [Launch.admits_selectMethod X2.admits, g2]; exact w4
  have hK2 := fillBack (l := l') (R := R) (p := p) (e := e) (below := below) (s := s) (sargs := args) (len := 3) (W := 8) hx htr Tc L Y.fill (u0 := ⟨va_rf r, hisr⟩) (self := q) (cell := cell) (cellS := cellU)
    (fun k z => by rw [g3] at z; cases z) (by rw [g3]; exact fun z => by cases z) hmon hvS hsel0 hneS (fun z => by rw [z] at u6; cases u6) u7 htS ⟨⟨ci198, iB, fB0⟩, ⟨hk198, hg198, ha198, hsB⟩, hvB⟩ hfr hlo
  obtain ⟨v, vm₁, ⟨U', l2, c2, s2⟩, hW₁, X', ⟨hv, hU, e1, e2, e3⟩, stp⟩ := callVUy X2 hx (C := C) (own := RJ13) (owner := "java/lang/Throwable") (index := 27) (x := Bundle.tFill) (y := Bundle.tFill) hown (hts _ q405) (hts _ q407) (declSync (hts _ q406) (hts _ q412)) (by decide) (hts _ hsF) (hts _ q406) hK2
    (b := q) (cellB := cell) (by rw [hT]; exact g1) (by rw [g3]; rfl) (by rw [g2]; exact hfc) (g := F0 m pc ls (.ref q :: st)) rfl (by rw [hl.1]) (argsL := []) (rest := st)
    (fun sig hsig => by
      have z : (parseMethodDescriptor Bundle.tFill.desc).map (fun d => d.parameters.length) = some 0 := by decide +kernel
      rw [hsig] at z
      exact (Option.some.inj z).symm) rfl (lv_room hst) (by rw [hb]; exact hd)
    (fun vm₁ hW₁ => ⟨rfl, by show T0.heap[q]? = _; rw [hT]; exact g1, by show T0.heap[Tc.aS]? = _; rw [hT]; exact hcellS⟩)
  dsimp only [Pt.U, Pt.locs, Pt.cells, Pt.slots] at X' hU e1 e2 e3 stp
  subst hv; subst e1; subst e2; subst e3
  obtain ⟨t, a1, b1⟩ := kk H l2 ls hh hS hl U' (hU.trans hT) X'
  exact ⟨t, stp t a1, b1⟩
end JF
