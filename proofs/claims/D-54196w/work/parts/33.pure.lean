/-! laws of the pure heap for the component's walks -/
set_option maxRecDepth 100000
theorem pu_o {h : PH} {a q : Nat} {e e' : va_E} (hq : q ≠ a) (hh : h q = some e') : pu h a e q = some e' := (pu_n hq).trans hh
theorem pu_on {h : PH} {a q : Nat} {e : va_E} (hq : q ≠ a) (hh : h q = none) : pu h a e q = none := (pu_n hq).trans hh
theorem ne_f {h : PH} {a b : Nat} {e : va_E} (ha : h a = some e) (hb : h b = none) : a ≠ b := fun z => by
  rw [z, hb] at ha
  cases ha
theorem ne_e {h : PH} {a b : Nat} {e e' : va_E} (ha : h a = some e) (hb : h b = some e') (he : e ≠ e') : a ≠ b := fun z => by
  rw [z, hb] at ha
  exact he (Option.some.inj ha).symm
theorem ne_c {h : PH} {a b ci cj : Nat} {fs gs : List Value} (ha : h a = some (eo ci fs)) (hb : h b = some (eo cj gs)) (hc : ci ≠ cj) : a ≠ b := ne_e ha hb (fun z => hc (congrArg Prod.fst (Sum.inr.inj z)))
theorem ne_oa {h : PH} {a b ci : Nat} {fs : List Value} {x : ClassId × vp_A} (ha : h a = some (eo ci fs)) (hb : h b = some (.inl x)) : a ≠ b := ne_e ha hb (fun z => by cases z)
theorem ne_aa {h : PH} {a b : Nat} {x y : ClassId × vp_A} (ha : h a = some (.inl x)) (hb : h b = some (.inl y)) (hc : x.1 ≠ y.1) : a ≠ b := ne_e ha hb (fun z => hc (congrArg Prod.fst (Sum.inl.inj z)))
theorem pu_dr1 {h : PH} {a b : Nat} {e f e' : va_E} (hab : a ≠ b) : pu (pu (pu h a e) b f) a e' = pu (pu h b f) a e' := by
  rw [pu_comm hab, pu_pu]
theorem pu_dr2 {h : PH} {a b c : Nat} {e f g e' : va_E} (hab : a ≠ b) (hac : a ≠ c) : pu (pu (pu (pu h a e) b f) c g) a e' = pu (pu (pu h b f) c g) a e' := by
  rw [pu_comm hab, pu_comm hac, pu_pu]
theorem pu_dr3 {h : PH} {a b c d : Nat} {e f g i e' : va_E} (hab : a ≠ b) (hac : a ≠ c) (had : a ≠ d) : pu (pu (pu (pu (pu h a e) b f) c g) d i) a e' = pu (pu (pu (pu h b f) c g) d i) a e' := by
  rw [pu_comm hab, pu_comm hac, pu_comm had, pu_pu]
theorem nar_q {C : String} (r : Option Nat) : narrow (.object C) (va_rf r) = va_rf r := by cases r <;> rfl
theorem fit_q {C : String} (r : Option Nat) : fits (.object C) (va_rf r) = true := by cases r <;> rfl
theorem isr_q (r : Option Nat) : va_rf r = .null ∨ ∃ a, va_rf r = .ref a := by
  cases r with
  | none => exact Or.inl rfl
  | some a => exact Or.inr ⟨a, rfl⟩
theorem J_topq {Γ : Cxt} {h : PH} {k n pc : Nat} {lv : List (Nat × Value)} {st : List Value} {r : Option Nat} {v : Value} (e0 : va_rf r = v) (kk : J Γ h k n pc lv (v :: st)) : J Γ h k n pc lv (va_rf r :: st) := e0 ▸ kk
theorem lw_F {own : String} {idx : Nat} {C : String} {x y : MethodName} {b : ByteArray} {L : Nat} {r : Option FieldType} (h1 : Cond.methodLink own idx x ∈ lw_all) (h2 : Cond.selects C x y ∈ lw_all) (h3 : Cond.instanceMethod y ∈ lw_all) (h4 : Cond.initialized y.cls ∈ lw_all) (h5 : Cond.code y b L r ∈ lw_all) : GoodIn lw_all (va_wsF own idx C x y (ws_ y b L r)) := by
  refine lw_app (fun w hw => ?_) (lw_meth h5)
  simp only [List.mem_cons, List.not_mem_nil, or_false] at hw
  rcases hw with rfl | rfl | rfl | rfl
  · exact h1
  · exact h2
  · exact h3
  · exact h4
theorem lw_U {own : String} {idx : Nat} {C owner : String} {x y : MethodName} {b : ByteArray} {L : Nat} {r : Option FieldType} (h1 : Cond.methodLink own idx x ∈ lw_all) (h2 : Cond.sameMethod x.cls owner x.name x.desc ∈ lw_all) (h3 : Cond.selects C x y ∈ lw_all) (h4 : Cond.instanceMethod y ∈ lw_all) (h5 : Cond.initialized y.cls ∈ lw_all) (h6 : Cond.code y b L r ∈ lw_all) : GoodIn lw_all (va_wsU own idx C owner x y (ws_ y b L r)) := by
  refine lw_app (fun w hw => ?_) (lw_meth h6)
  simp only [List.mem_cons, List.not_mem_nil, or_false] at hw
  rcases hw with rfl | rfl | rfl | rfl | rfl
  · exact h1
  · exact h2
  · exact h3
  · exact h4
  · exact h5
theorem lw_O {own : String} {idx : Nat} {C owner : String} {x y : MethodName} {b : ByteArray} {L : Nat} {r : Option FieldType} (h1 : Cond.methodLink own idx x ∈ lw_all) (h2 : Cond.sameMethod x.cls owner x.name x.desc ∈ lw_all) (h0 : Cond.instanceMethod ⟨owner, x.name, x.desc⟩ ∈ lw_all) (h3 : Cond.selects C x y ∈ lw_all) (h4 : Cond.instanceMethod y ∈ lw_all) (h5 : Cond.initialized y.cls ∈ lw_all) (h6 : Cond.code y b L r ∈ lw_all) : GoodIn lw_all (va_wsO own idx C owner x y (ws_ y b L r)) := by
  refine lw_app (fun w hw => ?_) (lw_meth h6)
  simp only [List.mem_cons, List.not_mem_nil, or_false] at hw
  rcases hw with rfl | rfl | rfl | rfl | rfl | rfl
  · exact h1
  · exact h2
  · exact h0
  · exact h3
  · exact h4
  · exact h5
abbrev rmC (f q c s : Nat) : Room := { frames := f, cells := c, slots := s, locals := q }
