/-! LinkedList as a relation: nodes nd 0 .. nd (n-1), items it 0 .. it (n-1) -/
set_option maxRecDepth 100000
def lfst (n : Nat) (nd : Nat → Nat) : Option Nat := if n = 0 then none else some (nd 0)
def llst (n : Nat) (nd : Nat → Nat) : Option Nat := if n = 0 then none else some (nd (n - 1))
def lnxt (n : Nat) (nd : Nat → Nat) (i : Nat) : Option Nat := if i + 1 < n then some (nd (i + 1)) else none
def lprv (nd : Nat → Nat) (i : Nat) : Option Nat := if i = 0 then none else some (nd (i - 1))
def LLf (h : PH) (a : Nat) (md : Int32) (n : Nat) (nd it : Nat → Nat) : Prop :=
  h a = some (eo 3 [.int md, .int (nI n), va_rf (lfst n nd), va_rf (llst n nd)]) ∧
  (∀ i, i < n → h (nd i) = some (eo 12 [.ref (it i), va_rf (lnxt n nd i), va_rf (lprv nd i)])) ∧
  (∀ i j, i < n → j < n → nd i = nd j → i = j)
/-- the cells of a list -/
def Lfp (a n : Nat) (nd : Nat → Nat) (q : Nat) : Prop := q = a ∨ ∃ i, i < n ∧ q = nd i
/-- cells outside F stay -/
def Fr (F : Nat → Prop) (h h' : PH) : Prop := ∀ b e, h b = some e → ¬ F b → h' b = some e
theorem Fr.rf {F : Nat → Prop} {h : PH} : Fr F h h := fun _ _ hb _ => hb
theorem Fr.mono {F G : Nat → Prop} {h h' : PH} (hf : Fr F h h') (hs : ∀ q, F q → G q) : Fr G h h' := fun b e hb hn => hf b e hb (fun z => hn (hs b z))
theorem Fr.trans {F : Nat → Prop} {h h' h2 : PH} (h1 : Fr F h h') (h2' : Fr F h' h2) : Fr F h h2 := fun b e hb hn => h2' b e (h1 b e hb hn) hn
theorem Fr.pu {F : Nat → Prop} {h : PH} {a : Nat} {e : va_E} (ha : F a ∨ h a = none) : Fr F h (pu h a e) := by
  intro b e' hb hn
  have : b ≠ a := by
    rintro rfl
    rcases ha with ha | ha
    · exact hn ha
    · rw [ha] at hb; cases hb
  exact pu_o this hb
theorem LLf.keep {h h' : PH} {a : Nat} {md : Int32} {n : Nat} {nd it : Nat → Nat} {F : Nat → Prop} (hl : LLf h a md n nd it) (hf : Fr F h h') (hd : ∀ q, Lfp a n nd q → ¬ F q) : LLf h' a md n nd it :=
  ⟨hf _ _ hl.1 (hd a (Or.inl rfl)), fun i hi => hf _ _ (hl.2.1 i hi) (hd _ (Or.inr ⟨i, hi, rfl⟩)), hl.2.2⟩
theorem Ct.mono {l : Launch} {D : va_G} {y : MethodName} {cc : ByteArray} {nL : Nat} {ret : Option FieldType} {rm : Room} {av : List Value} {h : PH} {Post Post' : Option Value → PH → Prop} (hC : Ct l D y cc nL ret rm av h Post) (hp : ∀ v h', Post v h' → Post' v h') : Ct l D y cc nL ret rm av h Post' := by
  intro sz p e h1 h2 h3 s m args below hf ha hP hK
  obtain ⟨n, o, a1, a2, a3, a4⟩ := hC sz p e h1 h2 h3 s m args below hf ha hP hK
  refine ⟨n, o, a1, a2, a3, ?_⟩
  obtain ⟨⟨v, h', e1, e2, e3⟩, e4⟩ := a4
  exact ⟨⟨v, h', e1, hp v h' e2, e3⟩, e4⟩
