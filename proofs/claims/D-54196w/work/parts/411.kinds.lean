/-! kinds of cells, what stays -/
set_option maxRecDepth 100000
theorem va_up_s {α : Type} {f : Nat → α} {k : Nat} {v : α} : va_up f k v k = v := va_up_self f k v
theorem va_up_n {α : Type} {f : Nat → α} {k j : Nat} {v : α} (h : j ≠ k) : va_up f k v j = f j := va_up_ne f v h
def kd (e : va_E) : Nat := match e with
  | .inl x => 100 + x.1
  | .inr o => o.1
theorem ne_k {h : PH} {a b : Nat} {e e' : va_E} (ha : h a = some e) (hb : h b = some e') (hk : (kd e == kd e') = false) : a ≠ b := fun z => by
  rw [z, hb] at ha
  rw [Option.some.inj ha, beq_self_eq_true] at hk
  cases hk
def Ext (h h' : PH) : Prop := ∀ q e, h q = some e → h' q = some e
theorem Ext.rf {h : PH} : Ext h h := fun _ _ z => z
theorem Ext.trans {a b c : PH} (h1 : Ext a b) (h2 : Ext b c) : Ext a c := fun q e z => h2 q e (h1 q e z)
theorem Ext.new {h : PH} {q : Nat} {e : va_E} (hq : h q = none) : Ext h (pu h q e) := fun a e' z => pu_o (ne_f z hq) z
theorem Ext.put {b h : PH} {q : Nat} {e : va_E} (hx : Ext b h) (hq : b q = none) : Ext b (pu h q e) := fun a e' z => pu_o (ne_f z hq) (hx a e' z)
theorem Ext.no {b h : PH} {q : Nat} (hx : Ext b h) (hq : h q = none) : b q = none := by
  cases hb : b q with
  | none => rfl
  | some e => rw [hx q e hb] at hq; cases hq
/-- cells of the kinds P stay -/
def Kp (P : Nat → Bool) (h h' : PH) : Prop := ∀ q e, h q = some e → P (kd e) = true → h' q = some e
theorem Kp.rf {P : Nat → Bool} {h : PH} : Kp P h h := fun _ _ z _ => z
theorem Kp.trans {P : Nat → Bool} {a b c : PH} (h1 : Kp P a b) (h2 : Kp P b c) : Kp P a c := fun q e z hp => h2 q e (h1 q e z hp) hp
theorem Kp.ext {P : Nat → Bool} {h h' : PH} (hx : Ext h h') : Kp P h h' := fun q e z _ => hx q e z
theorem Kp.put {P : Nat → Bool} {h : PH} {q : Nat} {e e0 : va_E} (hq : h q = some e0) (hk : P (kd e0) = false) : Kp P h (pu h q e) := fun a e' z hp => by
  refine pu_o ?_ z
  rintro rfl
  rw [hq] at z
  rw [Option.some.inj z, hp] at hk
  cases hk
def kList (n : Nat) : Bool := n == 3 || n == 11 || n == 12
def kBody (n : Nat) : Bool := n == 1 || n == 104 || n == 2 || n == 105 || n == 4 || n == 10
section LK
variable {h h' : PH} {a n : Nat} {md : Int32} {nd it : Nat → Nat}
theorem LLf.kept (hl : LLf h a md n nd it) (hk : Kp kList h h') : LLf h' a md n nd it := ⟨hk _ _ hl.1 rfl, fun i hi => hk _ _ (hl.2.1 i hi) rfl, hl.2.2⟩
theorem LLf.nofp (hl : LLf h a md n nd it) {q : Nat} (hq : h q = none) : ¬ Lfp a n nd q := by
  rintro (rfl | ⟨i, hi, rfl⟩)
  · rw [hl.1] at hq; cases hq
  · rw [hl.2.1 i hi] at hq; cases hq
theorem LLf.nofk (hl : LLf h a md n nd it) {q : Nat} {e : va_E} (hq : h q = some e) (h3 : (kd e == 3) = false) (h12 : (kd e == 12) = false) : ¬ Lfp a n nd q := by
  rintro (rfl | ⟨i, hi, rfl⟩)
  · rw [hl.1] at hq
    rw [← Option.some.inj hq] at h3
    cases h3
  · rw [hl.2.1 i hi] at hq
    rw [← Option.some.inj hq] at h12
    cases h12
theorem LLf.pu (hl : LLf h a md n nd it) {q : Nat} {e : va_E} (hq : ¬ Lfp a n nd q) : LLf (pu h q e) a md n nd it :=
  ⟨pu_o (fun z => hq (z ▸ Or.inl rfl)) hl.1, fun i hi => pu_o (fun z => hq (z ▸ Or.inr ⟨i, hi, rfl⟩)) (hl.2.1 i hi), hl.2.2⟩
end LK
