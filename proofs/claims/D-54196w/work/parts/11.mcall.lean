/-! calls of the reference's own methods -/
set_option maxRecDepth 100000
abbrev rmM (f q : Nat) : Room := { frames := f, cells := 0, slots := 0, locals := q }
def PM (h0 : PH) (m : Nat) (ar : Nat → Nat) (r : Option Value) (τ : MS) : Option Value → PH → Prop := fun v h' => v = r ∧ h' = mh h0 m ar τ
def PS (h : PH) (r : Option Value) : Option Value → PH → Prop := fun v h' => v = r ∧ h' = h
section MC
variable {l : Launch} {D : va_G} {cc : ByteArray} {own : String} {nL : Nat} {rm : Room} {Γ : Cxt} {h0 h : PH} {m : Nat} {ar : Nat → Nat} {σ τ : MS} {k n pc nx : Nat} {lv : List (Nat × Value)} {st rest : List Value}
variable {y : MethodName} {cc' : ByteArray} {nL' ix f q : Nat} {ret : Option FieldType} {As : List Value} {r : Option Value}
theorem M_callV (X : Cx l D cc RX3 nL rm Γ) (d : At cc pc (.invokevirtual ix) 3 nx) (hC : Ct l D y cc' nL' ret (rmM f q) (.ref m :: As) (mh h0 m ar σ) (PM h0 m ar r τ)) (hg : GoodIn lw_all (wsV RX3 ix y.cls y (ws_ y cc' nL' ret))) {na : Nat} (hd2 : okY y na) (hna : As.length = na) (hcl : y.cls = RX3) (hR : f + 1 ≤ rm.frames ∧ 8 + (nL' + 11) + q ≤ rm.locals) (hs : st = As.reverse ++ .ref m :: rest) (hst : (rest.map fun v => v.category).sum ≤ 8) (hk : k ≤ rm.cells) (hn : n ≤ rm.slots)
    (kk : J Γ (mh h0 m ar τ) k n nx lv (r.toList ++ rest)) : J Γ (mh h0 m ar σ) k n pc lv st := by
  refine J_callV X d hC hg hd2 hna mh_m (T := TX3) (N := 15) ?_ hR hs hst hk hn ?_
  · rw [hcl]; rfl
  · rintro v h' ⟨rfl, rfl⟩
    exact kk
theorem S_callS (X : Cx l D cc own nL rm Γ) (d : At cc pc (.invokestatic ix) 3 nx) (hC : Ct l D y cc' nL' ret (rmM f q) As h (PS h r)) (hg : GoodIn lw_all (va_wsS own ix y (ws_ y cc' nL' ret))) {na : Nat} (hd2 : okY y na) (hna : As.length = na) (hR : f + 1 ≤ rm.frames ∧ 8 + (nL' + 11) + q ≤ rm.locals) (hs : st = As.reverse ++ rest) (hst : (rest.map fun v => v.category).sum ≤ 8) (hk : k ≤ rm.cells) (hn : n ≤ rm.slots)
    (kk : J Γ h k n nx lv (r.toList ++ rest)) : J Γ h k n pc lv st := by
  refine J_callS X d hC hg hd2 hna hR hs hst hk hn ?_
  rintro v h' ⟨rfl, rfl⟩
  exact kk
end MC
def isB (x : Int32) : Prop := x = 0 ∨ x = 1
theorem isB.nar {x : Int32} (h : isB x) : narrow .boolean (.int x) = .int x := by
  rcases h with rfl | rfl <;> rfl
theorem isB_ite {c : Prop} [Decidable c] {a b : Int32} (ha : isB a) (hb : isB b) : isB (if c then a else b) := by
  split
  · exact ha
  · exact hb
theorem isB_0 : isB 0 := Or.inl rfl
theorem isB_1 : isB 1 := Or.inr rfl
/-- a loop that counts i up to N -/
theorem up_to (N : Nat) {P : Nat → Prop} (hN : P N) (hs : ∀ i, i < N → P (i + 1) → P i) : P 0 := by
  have key : ∀ d i, i + d = N → P i := by
    intro d
    induction d with
    | zero => intro i hi; rw [show i = N by omega]; exact hN
    | succ d ih => intro i hi; exact hs i (by omega) (ih (i + 1) (by omega))
  exact key N 0 (Nat.zero_add N)
/-- the same, with what holds at the head -/
theorem up_toI (N : Nat) {P : Nat → Prop} {I : Nat → Prop} (h0 : I 0) (hN : I N → P N) (hs : ∀ i, i < N → I i → I (i + 1) ∧ (P (i + 1) → P i)) : P 0 := by
  have hI : ∀ i, i ≤ N → I i := by
    intro i
    induction i with
    | zero => intro _; exact h0
    | succ i ih => intro hi; exact (hs i (by omega) (ih (by omega))).1
  exact up_to N (hN (hI N (Nat.le_refl N))) (fun i hi hp => (hs i hi (hI i (by omega))).2 hp)
def cpn (f g : Nat → Int32) (n : Nat) : Nat → Int32 := fun j => if j < n then f j else g j
theorem cpn_0 (f g : Nat → Int32) : cpn f g 0 = g := by funext j; simp [cpn]
theorem cpn_s (f g : Nat → Int32) (i : Nat) : upd (cpn f g i) i (f i) = cpn f g (i + 1) := by
  funext j
  unfold upd cpn
  by_cases h : j = i
  · rw [if_pos h, if_pos (by omega), h]
  · rw [if_neg h]
    by_cases h2 : j < i
    · rw [if_pos h2, if_pos (by omega)]
    · rw [if_neg h2, if_neg (by omega)]
theorem sA_sA (σ : MS) (i : Nat) (f g : Nat → Int32) : sA (sA σ i f) i g = sA σ i g := by
  unfold sA
  refine Prod.ext ?_ rfl
  funext k
  show (if k = i then g else if k = i then f else σ.1 k) = if k = i then g else σ.1 k
  by_cases h : k = i
  · rw [if_pos h, if_pos h]
  · rw [if_neg h, if_neg h, if_neg h]
theorem sA_id (σ : MS) (i : Nat) : sA σ i (σ.1 i) = σ := by
  unfold sA
  refine Prod.ext ?_ rfl
  funext k
  show (if k = i then σ.1 i else σ.1 k) = σ.1 k
  by_cases h : k = i
  · rw [if_pos h, h]
  · rw [if_neg h]
theorem sV_sV (σ : MS) (j : Nat) (x y : Int32) : sV (sV σ j x) j y = sV σ j y := by
  unfold sV
  refine Prod.ext rfl ?_
  funext k
  show (if k = j then y else if k = j then x else σ.2 k) = if k = j then y else σ.2 k
  by_cases h : k = j
  · rw [if_pos h, if_pos h]
  · rw [if_neg h, if_neg h, if_neg h]
theorem sA_fold {i j : Nat} (hij : i ≠ j) (σ : MS) (f g f2 : Nat → Int32) : sA (sA (sA σ i f) j g) i f2 = sA (sA σ i f2) j g := by
  unfold sA
  refine Prod.ext ?_ rfl
  funext k
  show (if k = i then f2 else if k = j then g else if k = i then f else σ.1 k) = if k = j then g else if k = i then f2 else σ.1 k
  by_cases h : k = i
  · rw [if_pos h, if_neg (by rw [h]; exact hij), if_pos h]
  · by_cases h2 : k = j
    · rw [if_neg h, if_pos h2, if_pos h2]
    · rw [if_neg h, if_neg h2, if_neg h, if_neg h2, if_neg h]
