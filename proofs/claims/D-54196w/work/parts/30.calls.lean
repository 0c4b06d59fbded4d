/-! more rows of J: cells that are never written; calls of nest mates, inherited, through an interface, of the superclass; calls that may throw -/
set_option maxRecDepth 100000
/-- a cell that can be read: of the pure heap, or one that is never written -/
def rd (D : va_G) (h : PH) (a : Nat) (e : va_E) : Prop := h a = some e ∨ Kr D a e
theorem rd.at {D : va_G} {A : Nat → Prop} {h : PH} {s : State} {H : Heap} {locs : List Loc} {a : Nat} {e : va_E} (hr : rd D h a e) (hh : hw D A h H) (hE : Ev D A s s.heap) (hS : va_S A s.heap H locs) : va_at D vwCl (a, tr D e) H := by
  rcases hr with hr | hr
  · exact (hh a e hr).1
  · obtain ⟨h1, h2, h3, h4, h5, h6, h7⟩ := hE
    exact ((h6.kept hS.2.1) a e hr).1
theorem rd.P {D : va_G} {A : Nat → Prop} {h : PH} {s : State} {H : Heap} {locs : List Loc} {a : Nat} {e : va_E} (hr : rd D h a e) (hh : hw D A h H) (hE : Ev D A s s.heap) (hS : va_S A s.heap H locs) : va_P D vwCl [(a, tr D e)] H := by
  intro k q hk
  have hz : k < 1 := (List.getElem?_eq_some_iff.mp hk).1
  rw [show k = 0 by omega] at hk
  cases hk
  exact hr.at hh hE hS
theorem rd.recv {D : va_G} {A : Nat → Prop} {h : PH} {s : State} {H : Heap} {locs : List Loc} {a ci : Nat} {q : vw_C} {fs : List Value} (hr : rd D h a (eo ci fs)) (hK : va_K D vwCl (tys6 D) s) (hh : hw D A h H) (hE : Ev D A s s.heap) (hS : va_S A s.heap H locs) (hc : vwCl[ci]? = some q) : ∃ cell : Cell, H[a]? = some cell ∧ cell.vm.isStatics = false ∧ s.vm.findClass q.1 = some cell.cls :=
  va_recv hK (hr.P hh hE hS) hc (q0 := 0) rfl
section JR2
variable {l : Launch} {D : va_G} {cc : ByteArray} {own : String} {nL : Nat} {rm : Room} {Γ : Cxt} {h : PH} {k n pc nx : Nat} {lv : List (Nat × Value)} {st rest : List Value}
/-- cells of the pure heap aren't those that are never written -/
theorem J_apart (X : Cx l D cc own nL rm Γ) (kk : KD D → (∀ a e e', h a = some e → Kr D a e' → False) → J Γ h k n pc lv st) : J Γ h k n pc lv st := by
  obtain ⟨p, l', e, R, s, m, args, below, meth, co, D', A, Q⟩ := Γ
  have X0 := X
  obtain ⟨rfl, rfl, rfl, hx, hb, hml, hown, hts, hK, hA, hlk, hE⟩ := X
  intro H locs ls hh hS hl
  obtain ⟨h1, h2, h3, h4, h5, h6, h7⟩ := hE
  exact kk h5 (fun a e e' ha hk => (h6 a e' hk).2 (hh a e ha).2) H locs ls hh hS hl
theorem J_getR (X : Cx l D cc own nL rm Γ) {a ci kf ix N : Nat} {fs : List Value} {v : Value} {C ref : String} {T : u_T} (d : At cc pc (.getfield ix) 3 nx) (ha : rd D h a (eo ci fs)) (hc : vwCl[ci]? = some (C, T, N)) (hin : ∀ w ∈ u_ws C T N, w ∈ lw_all) (hk : Nat.ble (kf + 1) N = true) (hlink : Cond.fieldLink own ix ref (T kf).2.1 (T kf).2.2.1 ∈ lw_all) (hr : ref = (T kf).1) (hv : fs[kf]? = some v)
    (kk : J Γ h k n nx lv (v :: st)) : J Γ h k n pc lv (.ref a :: st) := by
  obtain ⟨p, l', e, R, s, m, args, below, meth, co, D', A, Q⟩ := Γ
  obtain ⟨rfl, rfl, rfl, hx, hb, hml, hown, hts, hK, hA, hlk, hE⟩ := X
  obtain ⟨hd, rfl⟩ := d
  intro H locs ls hh hS hl
  subst hr
  exact va_get hx hb hts hin hown hK (ha.P hh hE hS) 0 rfl hc kf (Nat.le_of_ble_eq_true hk) (hts _ hlink) (fun _ z => z) hv hd (kk H locs ls hh hS hl)
theorem J_baldR (X : Cx l D cc own nL rm Γ) {a N j : Nat} {f : Nat → Int32} (d : At cc pc .baload 1 nx) (ha : rd D h a (eB N f)) (hj : j < N) (hN : N < 2 ^ 31) (kk : J Γ h k n nx lv (.int (f j) :: st)) : J Γ h k n pc lv (.int (nI j) :: .ref a :: st) := by
  obtain ⟨p, l', e, R, s, m, args, below, meth, co, D', A, Q⟩ := Γ
  obtain ⟨rfl, rfl, rfl, hx, hb, hml, hown, hts, hK, hA, hlk, hE⟩ := X
  obtain ⟨hd, rfl⟩ := d
  intro H locs ls hh hS hl
  exact va_bald hx hb hK (ha.P hh hE hS) 0 1 rfl rfl (vp_in_nI hj hN) hd (by rw [nI_clamp (by omega)]; exact kk H locs ls hh hS hl)
/-- a static that holds a known value -/
theorem J_getst (X : Cx l D cc own nL rm Γ) {ix : Nat} {C nm ds : String} {v : Value} (d : At cc pc (.getstatic ix) 3 nx) (hZ : ∀ A U H, SW D A U H → va_Z C nm ds v A U H) (hlink : Cond.fieldLink own ix C nm ds ∈ lw_all) (kk : J Γ h k n nx lv (v :: st)) : J Γ h k n pc lv st := by
  obtain ⟨p, l', e, R, s, m, args, below, meth, co, D', A, Q⟩ := Γ
  obtain ⟨rfl, rfl, rfl, hx, hb, hml, hown, hts, hK, hA, hlk, hE⟩ := X
  obtain ⟨hd, rfl⟩ := d
  intro H locs ls hh hS hl
  obtain ⟨h1, h2, h3, h4, h5, h6, h7⟩ := hE
  exact va_gets hx hb (hZ _ _ _ h7) hS hown (hts _ hlink) (fun _ z => z) hd (kk H locs ls hh hS hl)
/-- a static that holds null or a reference -/
theorem J_getstq (X : Cx l D cc own nL rm Γ) {ix : Nat} {C nm ds : String} (d : At cc pc (.getstatic ix) 3 nx) (hZ : ∀ A U H, SW D A U H → va_Zq C nm ds A U H) (hlink : Cond.fieldLink own ix C nm ds ∈ lw_all) (kk : ∀ r : Option Nat, J Γ h k n nx lv (va_rf r :: st)) : J Γ h k n pc lv st := by
  obtain ⟨p, l', e, R, s, m, args, below, meth, co, D', A, Q⟩ := Γ
  obtain ⟨rfl, rfl, rfl, hx, hb, hml, hown, hts, hK, hA, hlk, hE⟩ := X
  obtain ⟨hd, rfl⟩ := d
  intro H locs ls hh hS hl
  obtain ⟨h1, h2, h3, h4, h5, h6, h7⟩ := hE
  rcases hZ _ _ _ h7 with z | ⟨t, z⟩
  · exact va_gets hx hb z hS hown (hts _ hlink) (fun _ z => z) hd (kk none H locs ls hh hS hl)
  · exact va_gets hx hb z hS hown (hts _ hlink) (fun _ z => z) hd (kk (some t) H locs ls hh hS hl)
/-- a String constant -/
theorem J_ldcS (X : Cx l D cc own nL rm Γ) {ix : Nat} (j : Nat) {q : String × Nat × String × Int32 × Int32 × List Int32} (d : At cc pc (.ldc ix) 2 nx) (hj : strs[j]? = some q) (hq : q.1 = own) (hi : q.2.1 = ix) (kk : J Γ h k n nx lv (.ref (kA D j) :: st)) : J Γ h k n pc lv st := by
  obtain ⟨p, l', e, R, s, m, args, below, meth, co, D', A, Q⟩ := Γ
  obtain ⟨rfl, rfl, rfl, hx, hb, hml, hown, hts, hK, hA, hlk, hE⟩ := X
  obtain ⟨hd, rfl⟩ := d
  intro H locs ls hh hS hl
  obtain ⟨h1, h2, h3, h4, h5, h6, h7⟩ := hE
  subst hi
  subst hq
  exact va_ldcS hx hb hown (h3 j q hj) hd (kk H locs ls hh hS hl)
end JR2
