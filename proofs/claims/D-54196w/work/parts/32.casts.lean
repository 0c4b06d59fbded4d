/-! rows of J: casts, instanceof -/
set_option maxRecDepth 100000
section JC2
variable {l : Launch} {D : va_G} {cc : ByteArray} {own : String} {nL : Nat} {rm : Room} {Γ : Cxt} {h : PH} {k n pc nx : Nat} {lv : List (Nat × Value)} {st rest : List Value}
theorem J_castN (X : Cx l D cc own nL rm Γ) {ix : Nat} (d : At cc pc (.checkcast ix) 3 nx) (kk : J Γ h k n nx lv (.null :: st)) : J Γ h k n pc lv (.null :: st) := by
  obtain ⟨p, l', e, R, s, m, args, below, meth, co, D', A, Q⟩ := Γ
  obtain ⟨rfl, rfl, rfl, hx, hb, hml, hown, hts, hK, hA, hlk, hE⟩ := X
  obtain ⟨hd, rfl⟩ := d
  intro H locs ls hh hS hl
  exact lv_castN hx hb hd (kk H locs ls hh hS hl)
theorem J_castY (X : Cx l D cc own nL rm Γ) {ix a ci N : Nat} {T : u_T} {C nm : String} {fs : List Value} (d : At cc pc (.checkcast ix) 3 nx) (ha : rd D h a (eo ci fs)) (hc : vwCl[ci]? = some (C, T, N)) (hlink : Cond.classLink own ix nm ∈ lw_all) (hca : Cond.castable C nm ∈ lw_tbl) (kk : J Γ h k n nx lv (.ref a :: st)) : J Γ h k n pc lv (.ref a :: st) := by
  obtain ⟨p, l', e, R, s, m, args, below, meth, co, D', A, Q⟩ := Γ
  obtain ⟨rfl, rfl, rfl, hx, hb, hml, hown, hts, hK, hA, hlk, hE⟩ := X
  obtain ⟨hd, rfl⟩ := d
  intro H locs ls hh hS hl
  exact va_castY hx hb hown (hts _ hlink) (hE.tw _ hca rfl) (ha.recv hK hh hE hS hc) hd (kk H locs ls hh hS hl)
theorem J_castS (X : Cx l D cc own nL rm Γ) {ix a ci N : Nat} {T : u_T} {C : String} {fs : List Value} (d : At cc pc (.checkcast ix) 3 nx) (ha : rd D h a (eo ci fs)) (hc : vwCl[ci]? = some (C, T, N)) (hlink : Cond.classLink own ix C ∈ lw_all) (kk : J Γ h k n nx lv (.ref a :: st)) : J Γ h k n pc lv (.ref a :: st) := by
  obtain ⟨p, l', e, R, s, m, args, below, meth, co, D', A, Q⟩ := Γ
  obtain ⟨rfl, rfl, rfl, hx, hb, hml, hown, hts, hK, hA, hlk, hE⟩ := X
  obtain ⟨hd, rfl⟩ := d
  intro H locs ls hh hS hl
  exact va_castS hx hb hown (hts _ hlink) (hK.1 ci _ hc).2 (ha.recv hK hh hE hS hc) hd (kk H locs ls hh hS hl)
theorem J_instN (X : Cx l D cc own nL rm Γ) {ix : Nat} (d : At cc pc (.instanceof ix) 3 nx) (kk : J Γ h k n nx lv (.int 0 :: st)) : J Γ h k n pc lv (.null :: st) := by
  obtain ⟨p, l', e, R, s, m, args, below, meth, co, D', A, Q⟩ := Γ
  obtain ⟨rfl, rfl, rfl, hx, hb, hml, hown, hts, hK, hA, hlk, hE⟩ := X
  obtain ⟨hd, rfl⟩ := d
  intro H locs ls hh hS hl
  exact lv_instN hx hb hd (kk H locs ls hh hS hl)
theorem J_instY (X : Cx l D cc own nL rm Γ) {ix a ci N : Nat} {T : u_T} {C nm : String} {fs : List Value} (d : At cc pc (.instanceof ix) 3 nx) (ha : rd D h a (eo ci fs)) (hc : vwCl[ci]? = some (C, T, N)) (hlink : Cond.classLink own ix nm ∈ lw_all) (hca : Cond.castable C nm ∈ lw_tbl) (kk : J Γ h k n nx lv (.int 1 :: st)) : J Γ h k n pc lv (.ref a :: st) := by
  obtain ⟨p, l', e, R, s, m, args, below, meth, co, D', A, Q⟩ := Γ
  obtain ⟨rfl, rfl, rfl, hx, hb, hml, hown, hts, hK, hA, hlk, hE⟩ := X
  obtain ⟨hd, rfl⟩ := d
  intro H locs ls hh hS hl
  exact va_instY hx hb hown (hts _ hlink) (hE.tw _ hca rfl) (ha.recv hK hh hE hS hc) hd (kk H locs ls hh hS hl)
theorem castSelf {s : State} {C : String} {cC : ClassId} (h : ClassAt s C cC) : va_Nw (.castable C C) s := by
  have h1 := va_assign h
  have h2 := h.1
  simp [va_Nw, Cond.before, Cond.holds, Cond.value, h1, h2]
theorem J_instS (X : Cx l D cc own nL rm Γ) {ix a ci N : Nat} {T : u_T} {C : String} {fs : List Value} (d : At cc pc (.instanceof ix) 3 nx) (ha : rd D h a (eo ci fs)) (hc : vwCl[ci]? = some (C, T, N)) (hlink : Cond.classLink own ix C ∈ lw_all) (kk : J Γ h k n nx lv (.int 1 :: st)) : J Γ h k n pc lv (.ref a :: st) := by
  obtain ⟨p, l', e, R, s, m, args, below, meth, co, D', A, Q⟩ := Γ
  obtain ⟨rfl, rfl, rfl, hx, hb, hml, hown, hts, hK, hA, hlk, hE⟩ := X
  obtain ⟨hd, rfl⟩ := d
  intro H locs ls hh hS hl
  exact va_instY hx hb hown (hts _ hlink) (castSelf (hK.1 ci _ hc).2) (ha.recv hK hh hE hS hc) hd (kk H locs ls hh hS hl)
/-- System.arraycopy of bytes -/
theorem J_copyB (X : Cx l D cc own nL rm Γ) {ix a0 a n0 n1 sp dp cnt : Nat} {f g : Nat → Int32} (d : At cc pc (.invokestatic ix) 3 nx) (hlink : Cond.methodLink own ix arraycopyName ∈ lw_all) (hnat : Cond.native arraycopyName ∈ lw_all) (hstat : Cond.static arraycopyName ∈ lw_all) (hini : Cond.initialized "java/lang/System" ∈ lw_all)
    (ha0 : h a0 = some (eB n0 f)) (ha1 : h a = some (eB n1 g)) (h4 : sp + cnt ≤ n0) (h5 : dp + cnt ≤ n1) (hN : n0 < 2 ^ 31) (hM : n1 < 2 ^ 31) (hfit : ∀ i, i < cnt → fits .byte (.int (f (sp + i))) = true) (hfr : 1 ≤ rm.frames) (hlo : (st.map fun v => v.category).sum + (nativeFrameWords "java/lang/System" "arraycopy" 5 + 11) ≤ rm.locals)
    (kk : J Γ (pu h a (eB n1 (va_cpy f g sp dp cnt))) k n nx lv st) : J Γ h k n pc lv (.int (nI cnt) :: .int (nI dp) :: .ref a :: .int (nI sp) :: .ref a0 :: st) := by
  obtain ⟨p, l', e, R, s, m, args, below, meth, co, D', A, Q⟩ := Γ
  obtain ⟨rfl, rfl, rfl, hx, hb, hml, hown, hts, hK, hA, hlk, hE⟩ := X
  obtain ⟨hd, rfl⟩ := d
  intro H locs ls hh hS hl
  obtain ⟨q0, hq0⟩ := wl_at (D := D') ha0 (hh.lt ha0)
  obtain ⟨q1, hq1⟩ := wl_at (D := D') ha1 (hh.lt ha1)
  have c1 : (nI sp).toNatClampNeg = sp := nI_clamp (by omega)
  have c2 : (nI dp).toNatClampNeg = dp := nI_clamp (by omega)
  have c3 : (nI cnt).toNatClampNeg = cnt := nI_clamp (by omega)
  refine va_copyi (ty := .byte) hx hb (by rw [hml]; exact hl.1.symm ▸ hml ▸ rfl) hown (hts _ hlink) (hts _ hnat) (hts _ hstat) (hts _ hini) hK (wl_P hh) (wl_D hh) hS q0 q1 1 1 hq0 hq1 rfl rfl rfl (nI_pos (by omega)) (nI_pos (by omega)) (nI_pos (by omega)) (by rw [c1, c3]; exact h4) (by rw [c2, c3]; exact h5) (by rw [c1, c3]; exact hfit) hfr hlo hd (fun H1 locs1 hP1 hD1 hS1 => ?_)
  rw [c1, c2, c3] at hP1
  exact kk H1 locs1 ls (wl_set (e := eB n1 (va_cpy f g sp dp cnt)) hh.at ha1 hq1 hP1) hS1 hl
end JC2
