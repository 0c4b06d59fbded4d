/-! rows of J: the never-written cells -/
set_option maxRecDepth 100000
theorem kr_0 {D : va_G} {h : PH} : rd D h (k0 D) (eO 0 (fun _ => none)) := Or.inr (Or.inr (Or.inr ⟨rfl, rfl⟩))
theorem J_alenR {l : Launch} {D : va_G} {cc : ByteArray} {own : String} {nL : Nat} {rm : Room} {Γ : Cxt} {h : PH} {k n pc nx : Nat} {lv : List (Nat × Value)} {st : List Value} (X : Cx l D cc own nL rm Γ) {a kd : Nat} {x : vp_A} (d : At cc pc .arraylength 1 nx) (ha : rd D h a (.inl (kd, x))) (hkd : Nat.ble kd 5 = true) (kk : J Γ h k n nx lv (.int (nI x.1) :: st)) : J Γ h k n pc lv (.ref a :: st) := by
  obtain ⟨p, l', e, R, s, m, args, below, meth, co, D', A, Q⟩ := Γ
  obtain ⟨rfl, rfl, rfl, hx, hb, hml, hown, hts, hK, hA, hlk, hE⟩ := X
  obtain ⟨hd, rfl⟩ := d
  intro H locs ls hh hS hl
  have hkd := Nat.le_of_ble_eq_true hkd
  rcases (show kd = 0 ∨ kd = 1 ∨ kd = 2 ∨ kd = 3 ∨ kd = 4 ∨ kd = 5 by omega) with rfl | rfl | rfl | rfl | rfl | rfl
  · exact va_alen (v := nI x.1) hx hb hK (ha.P hh hE hS) 0 0 rfl rfl rfl hd (kk H locs ls hh hS hl)
  · exact va_alen (v := nI x.1) hx hb hK (ha.P hh hE hS) 0 1 rfl rfl rfl hd (kk H locs ls hh hS hl)
  · exact va_alen (v := nI x.1) hx hb hK (ha.P hh hE hS) 0 2 rfl rfl rfl hd (kk H locs ls hh hS hl)
  · exact va_alen (v := nI x.1) hx hb hK (ha.P hh hE hS) 0 3 rfl rfl rfl hd (kk H locs ls hh hS hl)
  · exact va_alen (v := nI x.1) hx hb hK (ha.P hh hE hS) 0 4 rfl rfl rfl hd (kk H locs ls hh hS hl)
  · exact va_alen (v := nI x.1) hx hb hK (ha.P hh hE hS) 0 5 rfl rfl rfl hd (kk H locs ls hh hS hl)
section JM
variable {l : Launch} {D : va_G} {cc : ByteArray} {own : String} {nL : Nat} {rm : Room} {Γ : Cxt} {h : PH} {k n pc nx : Nat} {lv : List (Nat × Value)} {st : List Value}
theorem J_max (X : Cx l D cc own nL rm Γ) {ix : Nat} {x y : Int32} (d : At cc pc (.invokestatic ix) 3 nx) (hl : Cond.methodLink own ix Lib.Math.max.name ∈ lw_all) (hs : Cond.static Lib.Math.max.name ∈ lw_all) (hi : Cond.initialized "java/lang/Math" ∈ lw_all) (hc : Cond.code Lib.Math.max.name Lib.Math.max.code 2 (some .int) ∈ lw_all) (hf : 1 ≤ rm.frames) (hlo : (st.map fun v => v.category).sum + 13 ≤ rm.locals) (hk : k ≤ rm.cells) (hn : n ≤ rm.slots) (kk : J Γ h k n nx lv (.int (if x < y then y else x) :: st)) : J Γ h k n pc lv (.int y :: .int x :: st) := by
  obtain ⟨p, l', e, R, s, m, args, below, meth, co, D', A, Q⟩ := Γ
  obtain ⟨rfl, rfl, rfl, hx, hb, hml, hown, hts, hK, hA, hlk, hE⟩ := X
  obtain ⟨hd, rfl⟩ := d
  intro H locs ls hh hS hlv
  exact va_mmax hx hb hlv.1.symm hown (hts _ hl) (hts _ hs) (hts _ hi) (hts _ hc) hf hlo hk hn hd (kk H locs ls hh hS hlv)
theorem J_min (X : Cx l D cc own nL rm Γ) {ix : Nat} {x y : Int32} (d : At cc pc (.invokestatic ix) 3 nx) (hl : Cond.methodLink own ix Lib.Math.min.name ∈ lw_all) (hs : Cond.static Lib.Math.min.name ∈ lw_all) (hi : Cond.initialized "java/lang/Math" ∈ lw_all) (hc : Cond.code Lib.Math.min.name Lib.Math.min.code 2 (some .int) ∈ lw_all) (hf : 1 ≤ rm.frames) (hlo : (st.map fun v => v.category).sum + 13 ≤ rm.locals) (hk : k ≤ rm.cells) (hn : n ≤ rm.slots) (kk : J Γ h k n nx lv (.int (if y < x then y else x) :: st)) : J Γ h k n pc lv (.int y :: .int x :: st) := by
  obtain ⟨p, l', e, R, s, m, args, below, meth, co, D', A, Q⟩ := Γ
  obtain ⟨rfl, rfl, rfl, hx, hb, hml, hown, hts, hK, hA, hlk, hE⟩ := X
  obtain ⟨hd, rfl⟩ := d
  intro H locs ls hh hS hlv
  exact va_mmin hx hb hlv.1.symm hown (hts _ hl) (hts _ hs) (hts _ hi) (hts _ hc) hf hlo hk hn hd (kk H locs ls hh hS hlv)
theorem J_minL (X : Cx l D cc own nL rm Γ) {ix : Nat} {x y : Int64} (d : At cc pc (.invokestatic ix) 3 nx) (hl : Cond.methodLink own ix Lib.MathLoose.min_long.x ∈ lw_all) (hs : Cond.static Lib.MathLoose.min_long.x ∈ lw_all) (hi : Cond.initialized "java/lang/Math" ∈ lw_all) (hc : Cond.code Lib.MathLoose.min_long.x Lib.MathLoose.min_long.code 4 (some .long) ∈ lw_all) (hf : 1 ≤ rm.frames) (hlo : (st.map fun v => v.category).sum + 15 ≤ rm.locals) (hk : k ≤ rm.cells) (hn : n ≤ rm.slots) (kk : J Γ h k n nx lv (.long (if y < x then y else x) :: st)) : J Γ h k n pc lv (.long y :: .long x :: st) := by
  obtain ⟨p, l', e, R, s, m, args, below, meth, co, D', A, Q⟩ := Γ
  obtain ⟨rfl, rfl, rfl, hx, hb, hml, hown, hts, hK, hA, hlk, hE⟩ := X
  obtain ⟨hd, rfl⟩ := d
  intro H locs ls hh hS hlv
  exact va_mmin_long hx hb hlv.1.symm hown (hts _ hl) (hts _ hs) (hts _ hi) (hts _ hc) hf hlo hk hn hd (kk H locs ls hh hS hlv)
end JM
theorem pu_nea {h : PH} {a q : Nat} {e : va_E} (hq : pu h a e q = none) : q ≠ a := fun z => by
  rw [z, pu_s] at hq
  cases hq
