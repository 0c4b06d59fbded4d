/-! rows of J over the pure heap: fields, arrays, new cells -/
set_option maxRecDepth 100000
section JC
variable {l : Launch} {D : va_G} {cc : ByteArray} {own : String} {nL : Nat} {rm : Room} {Γ : Cxt} {h : PH} {k n pc nx : Nat} {lv : List (Nat × Value)} {st : List Value}
theorem hw.at {D : va_G} {A : Nat → Prop} {h : PH} {H : Heap} (hh : hw D A h H) : ∀ a e, h a = some e → a < H.size ∧ A a := fun a e ha => ⟨hh.lt ha, (hh a e ha).2⟩
theorem J_get (X : Cx l D cc own nL rm Γ) {a ci kf ix N : Nat} {fs : List Value} {v : Value} {C ref : String} {T : u_T} (d : At cc pc (.getfield ix) 3 nx) (ha : h a = some (eo ci fs)) (hc : vwCl[ci]? = some (C, T, N)) (hin : ∀ w ∈ u_ws C T N, w ∈ lw_all) (hk : Nat.ble (kf + 1) N = true) (hlink : Cond.fieldLink own ix ref (T kf).2.1 (T kf).2.2.1 ∈ lw_all) (hr : ref = (T kf).1) (hv : fs[kf]? = some v)
    (kk : J Γ h k n nx lv (v :: st)) : J Γ h k n pc lv (.ref a :: st) := by
  obtain ⟨p, l', e, R, s, m, args, below, meth, co, D', A, Q⟩ := Γ
  obtain ⟨rfl, rfl, rfl, hx, hb, hml, hown, hts, hK, hA, hlk, hE⟩ := X
  obtain ⟨hd, rfl⟩ := d
  intro H locs ls hh hS hl
  obtain ⟨q0, hq0⟩ := wl_at (D := D') ha (hh.lt ha)
  subst hr
  exact va_get hx hb hts hin hown hK (wl_P hh) q0 hq0 hc kf (Nat.le_of_ble_eq_true hk) (hts _ hlink) (fun _ z => z) hv hd (kk H locs ls hh hS hl)
theorem J_getS (X : Cx l D cc own nL rm Γ) {a ci kf ix N : Nat} {fs : List Value} {v : Value} {C ref : String} {T : u_T} (d : At cc pc (.getfield ix) 3 nx) (ha : h a = some (eo ci fs)) (hc : vwCl[ci]? = some (C, T, N)) (hin : ∀ w ∈ u_ws C T N, w ∈ lw_all) (hk : Nat.ble (kf + 1) N = true) (hlink : Cond.fieldLink own ix ref (T kf).2.1 (T kf).2.2.1 ∈ lw_all) (hr : Cond.sameField ref (T kf).1 (T kf).2.1 (T kf).2.2.1 ∈ lw_all) (hv : fs[kf]? = some v)
    (kk : J Γ h k n nx lv (v :: st)) : J Γ h k n pc lv (.ref a :: st) := by
  obtain ⟨p, l', e, R, s, m, args, below, meth, co, D', A, Q⟩ := Γ
  obtain ⟨rfl, rfl, rfl, hx, hb, hml, hown, hts, hK, hA, hlk, hE⟩ := X
  obtain ⟨hd, rfl⟩ := d
  intro H locs ls hh hS hl
  obtain ⟨q0, hq0⟩ := wl_at (D := D') ha (hh.lt ha)
  exact va_get hx hb hts hin hown hK (wl_P hh) q0 hq0 hc kf (Nat.le_of_ble_eq_true hk) (hts _ hlink) (u_same (hts _ hr)) hv hd (kk H locs ls hh hS hl)
/-- a nest mate's private field -/
theorem J_getN (X : Cx l D cc own nL rm Γ) {a ci kf ix N : Nat} {fs : List Value} {v : Value} {C ref host : String} {T : u_T} (d : At cc pc (.getfield ix) 3 nx) (ha : h a = some (eo ci fs)) (hc : vwCl[ci]? = some (C, T, N)) (hin : ∀ w ∈ u_ws C T N, w ∈ lw_all) (hk : Nat.ble (kf + 1) N = true) (hlink : Cond.fieldLinkNest own ix ref (T kf).2.1 (T kf).2.2.1 host ∈ lw_tbl) (hr : ref = (T kf).1) (hv : fs[kf]? = some v)
    (kk : J Γ h k n nx lv (v :: st)) : J Γ h k n pc lv (.ref a :: st) := by
  obtain ⟨p, l', e, R, s, m, args, below, meth, co, D', A, Q⟩ := Γ
  obtain ⟨rfl, rfl, rfl, hx, hb, hml, hown, hts, hK, hA, hlk, hE⟩ := X
  obtain ⟨hd, rfl⟩ := d
  intro H locs ls hh hS hl
  obtain ⟨q0, hq0⟩ := wl_at (D := D') ha (hh.lt ha)
  subst hr
  exact va_getN hx hb hts hin hown hK (wl_P hh) q0 hq0 hc kf (Nat.le_of_ble_eq_true hk) (va_Nw.use rfl (hE.tw _ hlink rfl)) (fun _ z => z) hv hd (kk H locs ls hh hS hl)
theorem J_put (X : Cx l D cc own nL rm Γ) {a ci kf ix N : Nat} {fs fs2 : List Value} {v : Value} {C ref : String} {T : u_T} {tf : Nat → FieldType} {ty : FieldType} (d : At cc pc (.putfield ix) 3 nx) (ha : h a = some (eo ci fs)) (hc : vwCl[ci]? = some (C, T, N)) (hin : ∀ w ∈ u_ws C T N, w ∈ lw_all) (hty : ∀ k, k < N → parseFieldDescriptor (T k).2.2.1 = some (tf k)) (hnm : ∀ a, a < N → ∀ b, b < N → a ≠ b → (T a).2.1 ≠ (T b).2.1) (hk : Nat.ble (kf + 1) N = true) (hlink : Cond.fieldLink own ix ref (T kf).2.1 (T kf).2.2.1 ∈ lw_all) (hr : ref = (T kf).1) (hfin : (T kf).2.2.2 = false) (hd2 : parseFieldDescriptor (T kf).2.2.1 = some ty) (hn : narrow ty v = v) (hfit : fits ty v = true) (hl2 : Nat.ble (kf + 1) fs.length = true) (hfs : fs.set kf v = fs2)
    (kk : J Γ (pu h a (eo ci fs2)) k n nx lv st) : J Γ h k n pc lv (v :: .ref a :: st) := by
  obtain ⟨p, l', e, R, s, m, args, below, meth, co, D', A, Q⟩ := Γ
  obtain ⟨rfl, rfl, rfl, hx, hb, hml, hown, hts, hK, hA, hlk, hE⟩ := X
  obtain ⟨hd, rfl⟩ := d
  intro H locs ls hh hS hl
  obtain ⟨q0, hq0⟩ := wl_at (D := D') ha (hh.lt ha)
  subst hr
  subst hfs
  exact va_put hx hb hts hin tf hty hnm hown hK (wl_P hh) (wl_D hh) hS q0 hq0 hc kf (Nat.le_of_ble_eq_true hk) (hts _ hlink) (fun _ z => z) hfin hd2 hn hfit (Nat.le_of_ble_eq_true hl2) hd (fun H1 locs1 hP1 hD1 hS1 => kk H1 locs1 ls (wl_set hh.at ha hq0 hP1) hS1 hl)
theorem J_putS (X : Cx l D cc own nL rm Γ) {a ci kf ix N : Nat} {fs fs2 : List Value} {v : Value} {C ref : String} {T : u_T} {tf : Nat → FieldType} {ty : FieldType} (d : At cc pc (.putfield ix) 3 nx) (ha : h a = some (eo ci fs)) (hc : vwCl[ci]? = some (C, T, N)) (hin : ∀ w ∈ u_ws C T N, w ∈ lw_all) (hty : ∀ k, k < N → parseFieldDescriptor (T k).2.2.1 = some (tf k)) (hnm : ∀ a, a < N → ∀ b, b < N → a ≠ b → (T a).2.1 ≠ (T b).2.1) (hk : Nat.ble (kf + 1) N = true) (hlink : Cond.fieldLink own ix ref (T kf).2.1 (T kf).2.2.1 ∈ lw_all) (hr : Cond.sameField ref (T kf).1 (T kf).2.1 (T kf).2.2.1 ∈ lw_all) (hfin : (T kf).2.2.2 = false) (hd2 : parseFieldDescriptor (T kf).2.2.1 = some ty) (hn : narrow ty v = v) (hfit : fits ty v = true) (hl2 : Nat.ble (kf + 1) fs.length = true) (hfs : fs.set kf v = fs2)
    (kk : J Γ (pu h a (eo ci fs2)) k n nx lv st) : J Γ h k n pc lv (v :: .ref a :: st) := by
  obtain ⟨p, l', e, R, s, m, args, below, meth, co, D', A, Q⟩ := Γ
  obtain ⟨rfl, rfl, rfl, hx, hb, hml, hown, hts, hK, hA, hlk, hE⟩ := X
  obtain ⟨hd, rfl⟩ := d
  intro H locs ls hh hS hl
  obtain ⟨q0, hq0⟩ := wl_at (D := D') ha (hh.lt ha)
  subst hfs
  exact va_put hx hb hts hin tf hty hnm hown hK (wl_P hh) (wl_D hh) hS q0 hq0 hc kf (Nat.le_of_ble_eq_true hk) (hts _ hlink) (u_same (hts _ hr)) hfin hd2 hn hfit (Nat.le_of_ble_eq_true hl2) hd (fun H1 locs1 hP1 hD1 hS1 => kk H1 locs1 ls (wl_set hh.at ha hq0 hP1) hS1 hl)
theorem J_putN (X : Cx l D cc own nL rm Γ) {a ci kf ix N : Nat} {fs fs2 : List Value} {v : Value} {C ref host : String} {T : u_T} {tf : Nat → FieldType} {ty : FieldType} (d : At cc pc (.putfield ix) 3 nx) (ha : h a = some (eo ci fs)) (hc : vwCl[ci]? = some (C, T, N)) (hin : ∀ w ∈ u_ws C T N, w ∈ lw_all) (hty : ∀ k, k < N → parseFieldDescriptor (T k).2.2.1 = some (tf k)) (hnm : ∀ a, a < N → ∀ b, b < N → a ≠ b → (T a).2.1 ≠ (T b).2.1) (hk : Nat.ble (kf + 1) N = true) (hlink : Cond.fieldLinkNest own ix ref (T kf).2.1 (T kf).2.2.1 host ∈ lw_tbl) (hr : ref = (T kf).1) (hfin : (T kf).2.2.2 = false) (hd2 : parseFieldDescriptor (T kf).2.2.1 = some ty) (hn : narrow ty v = v) (hfit : fits ty v = true) (hl2 : Nat.ble (kf + 1) fs.length = true) (hfs : fs.set kf v = fs2)
    (kk : J Γ (pu h a (eo ci fs2)) k n nx lv st) : J Γ h k n pc lv (v :: .ref a :: st) := by
  obtain ⟨p, l', e, R, s, m, args, below, meth, co, D', A, Q⟩ := Γ
  obtain ⟨rfl, rfl, rfl, hx, hb, hml, hown, hts, hK, hA, hlk, hE⟩ := X
  obtain ⟨hd, rfl⟩ := d
  intro H locs ls hh hS hl
  obtain ⟨q0, hq0⟩ := wl_at (D := D') ha (hh.lt ha)
  subst hr
  subst hfs
  exact va_putN hx hb hts hin tf hty hnm hown hK (wl_P hh) (wl_D hh) hS q0 hq0 hc kf (Nat.le_of_ble_eq_true hk) (va_Nw.use rfl (hE.tw _ hlink rfl)) (fun _ z => z) hfin hd2 hn hfit (Nat.le_of_ble_eq_true hl2) hd (fun H1 locs1 hP1 hD1 hS1 => kk H1 locs1 ls (wl_set hh.at ha hq0 hP1) hS1 hl)
/-- a final field, in its class's constructor -/
theorem J_putF (X : Cx l D cc own nL rm Γ) (hmn : Mn "<init>" Γ) {a ci kf ix N : Nat} {fs fs2 : List Value} {v : Value} {C ref : String} {T : u_T} {tf : Nat → FieldType} {ty : FieldType} (d : At cc pc (.putfield ix) 3 nx) (ha : h a = some (eo ci fs)) (hc : vwCl[ci]? = some (C, T, N)) (hin : ∀ w ∈ u_ws C T N, w ∈ lw_all) (hty : ∀ k, k < N → parseFieldDescriptor (T k).2.2.1 = some (tf k)) (hnm : ∀ a, a < N → ∀ b, b < N → a ≠ b → (T a).2.1 ≠ (T b).2.1) (hk : Nat.ble (kf + 1) N = true) (hlink : Cond.fieldLink own ix ref (T kf).2.1 (T kf).2.2.1 ∈ lw_all) (hr : ref = (T kf).1) (ho : (T kf).1 = own) (hfin : (T kf).2.2.2 = true) (hd2 : parseFieldDescriptor (T kf).2.2.1 = some ty) (hn : narrow ty v = v) (hfit : fits ty v = true) (hl2 : Nat.ble (kf + 1) fs.length = true) (hfs : fs.set kf v = fs2)
    (kk : J Γ (pu h a (eo ci fs2)) k n nx lv st) : J Γ h k n pc lv (v :: .ref a :: st) := by
  obtain ⟨p, l', e, R, s, m, args, below, meth, co, D', A, Q⟩ := Γ
  obtain ⟨rfl, rfl, rfl, hx, hb, hml, hown, hts, hK, hA, hlk, hE⟩ := X
  obtain ⟨hd, rfl⟩ := d
  intro H locs ls hh hS hl
  obtain ⟨q0, hq0⟩ := wl_at (D := D') ha (hh.lt ha)
  subst hr
  subst hfs
  exact va_putF hx hb hts hin tf hty hnm hown hK (wl_P hh) (wl_D hh) hS q0 hq0 hc kf (Nat.le_of_ble_eq_true hk) (hts _ hlink) (fun _ z => z) hfin hmn ho hd2 hn hfit (Nat.le_of_ble_eq_true hl2) hd (fun H1 locs1 hP1 hD1 hS1 => kk H1 locs1 ls (wl_set hh.at ha hq0 hP1) hS1 hl)
theorem J_new (X : Cx l D cc own nL rm Γ) {ci ix N : Nat} {fs : List Value} {C : String} {T : u_T} {tf : Nat → FieldType} (d : At cc pc (.new ix) 3 nx) (hc : vwCl[ci]? = some (C, T, N)) (hin : ∀ w ∈ u_ws C T N, w ∈ lw_all) (hty : ∀ k, k < N → parseFieldDescriptor (T k).2.2.1 = some (tf k)) (hcl : Cond.classLink own ix C ∈ lw_all) (hinst : Cond.instantiable C N ∈ lw_all) (hini : Cond.initialized C ∈ lw_all) (hfs : ∀ j, j < N → defaultValue (tf j) = vp_V fs j) (hk : k + 1 ≤ rm.cells) (hn : n + N ≤ rm.slots)
    (kk : ∀ q, h q = none → J Γ (pu h q (eo ci fs)) (k + 1) (n + N) nx lv (.ref q :: st)) : J Γ h k n pc lv st := by
  obtain ⟨p, l', e, R, s, m, args, below, meth, co, D', A, Q⟩ := Γ
  obtain ⟨rfl, rfl, rfl, hx, hb, hml, hown, hts, hK, hA, hlk, hE⟩ := X
  obtain ⟨hd, rfl⟩ := d
  intro H locs ls hh hS hl
  refine va_new (ci := ci) (fs := fs) hx hb hts hin tf hty hown (hts _ hcl) (hts _ hinst) (hts _ hini) hK (wl_P hh) (wl_D hh) hS hA hc hfs hk hn hd (fun q H1 hP1 hD1 hS1 => ?_)
  obtain ⟨g1, g2⟩ := wl_push (e := eo ci fs) hh.at hP1 hD1
  exact kk q g1 H1 locs ls g2 hS1 hl
end JC
