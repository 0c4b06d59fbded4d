/-! rows of J: arrays; calls -/
set_option maxRecDepth 100000
section JA
variable {l : Launch} {D : va_G} {cc : ByteArray} {own : String} {nL : Nat} {rm : Room} {Γ : Cxt} {h : PH} {k n pc nx : Nat} {lv : List (Nat × Value)} {st : List Value}
theorem J_iald (X : Cx l D cc own nL rm Γ) {a N j : Nat} {f : Nat → Int32} (d : At cc pc .iaload 1 nx) (ha : h a = some (eI N f)) (hj : j < N) (hN : N < 2 ^ 31) (kk : J Γ h k n nx lv (.int (f j) :: st)) : J Γ h k n pc lv (.int (nI j) :: .ref a :: st) := by
  obtain ⟨p, l', e, R, s, m, args, below, meth, co, D', A, Q⟩ := Γ
  obtain ⟨rfl, rfl, rfl, hx, hb, hml, hown, hts, hK, hA, hlk, hE⟩ := X
  obtain ⟨hd, rfl⟩ := d
  intro H locs ls hh hS hl
  obtain ⟨q0, hq0⟩ := wl_at (D := D') ha (hh.lt ha)
  exact va_iald hx hb hK (wl_P hh) q0 0 hq0 rfl (vp_in_nI hj hN) hd (by rw [nI_clamp (by omega)]; exact kk H locs ls hh hS hl)
theorem J_bald (X : Cx l D cc own nL rm Γ) {a N j : Nat} {f : Nat → Int32} (d : At cc pc .baload 1 nx) (ha : h a = some (eB N f)) (hj : j < N) (hN : N < 2 ^ 31) (kk : J Γ h k n nx lv (.int (f j) :: st)) : J Γ h k n pc lv (.int (nI j) :: .ref a :: st) := by
  obtain ⟨p, l', e, R, s, m, args, below, meth, co, D', A, Q⟩ := Γ
  obtain ⟨rfl, rfl, rfl, hx, hb, hml, hown, hts, hK, hA, hlk, hE⟩ := X
  obtain ⟨hd, rfl⟩ := d
  intro H locs ls hh hS hl
  obtain ⟨q0, hq0⟩ := wl_at (D := D') ha (hh.lt ha)
  exact va_bald hx hb hK (wl_P hh) q0 1 hq0 rfl (vp_in_nI hj hN) hd (by rw [nI_clamp (by omega)]; exact kk H locs ls hh hS hl)
theorem J_zald (X : Cx l D cc own nL rm Γ) {a N j : Nat} {f : Nat → Int32} (d : At cc pc .baload 1 nx) (ha : h a = some (eZ N f)) (hj : j < N) (hN : N < 2 ^ 31) (kk : J Γ h k n nx lv (.int (f j) :: st)) : J Γ h k n pc lv (.int (nI j) :: .ref a :: st) := by
  obtain ⟨p, l', e, R, s, m, args, below, meth, co, D', A, Q⟩ := Γ
  obtain ⟨rfl, rfl, rfl, hx, hb, hml, hown, hts, hK, hA, hlk, hE⟩ := X
  obtain ⟨hd, rfl⟩ := d
  intro H locs ls hh hS hl
  obtain ⟨q0, hq0⟩ := wl_at (D := D') ha (hh.lt ha)
  exact va_zald hx hb hK (wl_P hh) q0 2 hq0 rfl (vp_in_nI hj hN) hd (by rw [nI_clamp (by omega)]; exact kk H locs ls hh hS hl)
theorem J_lald (X : Cx l D cc own nL rm Γ) {a N j : Nat} {f : Nat → Int64} (d : At cc pc .laload 1 nx) (ha : h a = some (eL N f)) (hj : j < N) (hN : N < 2 ^ 31) (kk : J Γ h k n nx lv (.long (f j) :: st)) : J Γ h k n pc lv (.int (nI j) :: .ref a :: st) := by
  obtain ⟨p, l', e, R, s, m, args, below, meth, co, D', A, Q⟩ := Γ
  obtain ⟨rfl, rfl, rfl, hx, hb, hml, hown, hts, hK, hA, hlk, hE⟩ := X
  obtain ⟨hd, rfl⟩ := d
  intro H locs ls hh hS hl
  obtain ⟨q0, hq0⟩ := wl_at (D := D') ha (hh.lt ha)
  exact va_lald hx hb hK (wl_P hh) q0 3 hq0 rfl (vp_in_nI hj hN) hd (by rw [nI_clamp (by omega)]; exact kk H locs ls hh hS hl)
theorem J_rald (X : Cx l D cc own nL rm Γ) {a N j : Nat} {f : Nat → Option Nat} (d : At cc pc .aaload 1 nx) (ha : h a = some (eR N f)) (hj : j < N) (hN : N < 2 ^ 31) (kk : J Γ h k n nx lv (va_rf (f j) :: st)) : J Γ h k n pc lv (.int (nI j) :: .ref a :: st) := by
  obtain ⟨p, l', e, R, s, m, args, below, meth, co, D', A, Q⟩ := Γ
  obtain ⟨rfl, rfl, rfl, hx, hb, hml, hown, hts, hK, hA, hlk, hE⟩ := X
  obtain ⟨hd, rfl⟩ := d
  intro H locs ls hh hS hl
  obtain ⟨q0, hq0⟩ := wl_at (D := D') ha (hh.lt ha)
  exact va_aldq hx hb hK (wl_P hh) q0 4 hq0 rfl (vp_in_nI hj hN) hd (by rw [nI_clamp (by omega)]; exact kk H locs ls hh hS hl)
theorem J_oald (X : Cx l D cc own nL rm Γ) {a N j : Nat} {f : Nat → Option Nat} (d : At cc pc .aaload 1 nx) (ha : h a = some (eO N f)) (hj : j < N) (hN : N < 2 ^ 31) (kk : J Γ h k n nx lv (va_rf (f j) :: st)) : J Γ h k n pc lv (.int (nI j) :: .ref a :: st) := by
  obtain ⟨p, l', e, R, s, m, args, below, meth, co, D', A, Q⟩ := Γ
  obtain ⟨rfl, rfl, rfl, hx, hb, hml, hown, hts, hK, hA, hlk, hE⟩ := X
  obtain ⟨hd, rfl⟩ := d
  intro H locs ls hh hS hl
  obtain ⟨q0, hq0⟩ := wl_at (D := D') ha (hh.lt ha)
  exact va_aldq hx hb hK (wl_P hh) q0 5 hq0 rfl (vp_in_nI hj hN) hd (by rw [nI_clamp (by omega)]; exact kk H locs ls hh hS hl)
theorem J_iast (X : Cx l D cc own nL rm Γ) {a N j : Nat} {f : Nat → Int32} {x : Int32} (d : At cc pc .iastore 1 nx) (ha : h a = some (eI N f)) (hj : j < N) (hN : N < 2 ^ 31) (kk : J Γ (pu h a (eI N (upd f j x))) k n nx lv st) : J Γ h k n pc lv (.int x :: .int (nI j) :: .ref a :: st) := by
  obtain ⟨p, l', e, R, s, m, args, below, meth, co, D', A, Q⟩ := Γ
  obtain ⟨rfl, rfl, rfl, hx, hb, hml, hown, hts, hK, hA, hlk, hE⟩ := X
  obtain ⟨hd, rfl⟩ := d
  intro H locs ls hh hS hl
  obtain ⟨q0, hq0⟩ := wl_at (D := D') ha (hh.lt ha)
  refine va_iast hx hb hK (wl_P hh) (wl_D hh) hS q0 0 hq0 rfl (vp_in_nI hj hN) hd (fun H1 locs1 hP1 hD1 hS1 => ?_)
  rw [nI_clamp (by omega)] at hP1
  exact kk H1 locs1 ls (wl_set (e := eI N (upd f j x)) hh.at ha hq0 hP1) hS1 hl
theorem J_bast (X : Cx l D cc own nL rm Γ) {a N j : Nat} {f : Nat → Int32} {x : Int32} (d : At cc pc .bastore 1 nx) (ha : h a = some (eB N f)) (hj : j < N) (hN : N < 2 ^ 31) (kk : J Γ (pu h a (eB N (upd f j (vp_nar .byte x)))) k n nx lv st) : J Γ h k n pc lv (.int x :: .int (nI j) :: .ref a :: st) := by
  obtain ⟨p, l', e, R, s, m, args, below, meth, co, D', A, Q⟩ := Γ
  obtain ⟨rfl, rfl, rfl, hx, hb, hml, hown, hts, hK, hA, hlk, hE⟩ := X
  obtain ⟨hd, rfl⟩ := d
  intro H locs ls hh hS hl
  obtain ⟨q0, hq0⟩ := wl_at (D := D') ha (hh.lt ha)
  refine va_bast hx hb hK (wl_P hh) (wl_D hh) hS q0 1 hq0 rfl (vp_in_nI hj hN) hd (fun H1 locs1 hP1 hD1 hS1 => ?_)
  rw [nI_clamp (by omega)] at hP1
  exact kk H1 locs1 ls (wl_set (e := eB N (upd f j (vp_nar .byte x))) hh.at ha hq0 hP1) hS1 hl
theorem J_zast (X : Cx l D cc own nL rm Γ) {a N j : Nat} {f : Nat → Int32} {x : Int32} (d : At cc pc .bastore 1 nx) (ha : h a = some (eZ N f)) (hj : j < N) (hN : N < 2 ^ 31) (kk : J Γ (pu h a (eZ N (upd f j (vp_nar .boolean x)))) k n nx lv st) : J Γ h k n pc lv (.int x :: .int (nI j) :: .ref a :: st) := by
  obtain ⟨p, l', e, R, s, m, args, below, meth, co, D', A, Q⟩ := Γ
  obtain ⟨rfl, rfl, rfl, hx, hb, hml, hown, hts, hK, hA, hlk, hE⟩ := X
  obtain ⟨hd, rfl⟩ := d
  intro H locs ls hh hS hl
  obtain ⟨q0, hq0⟩ := wl_at (D := D') ha (hh.lt ha)
  refine va_zast hx hb hK (wl_P hh) (wl_D hh) hS q0 2 hq0 rfl (vp_in_nI hj hN) hd (fun H1 locs1 hP1 hD1 hS1 => ?_)
  rw [nI_clamp (by omega)] at hP1
  exact kk H1 locs1 ls (wl_set (e := eZ N (upd f j (vp_nar .boolean x))) hh.at ha hq0 hP1) hS1 hl
theorem J_last (X : Cx l D cc own nL rm Γ) {a N j : Nat} {f : Nat → Int64} {x : Int64} (d : At cc pc .lastore 1 nx) (ha : h a = some (eL N f)) (hj : j < N) (hN : N < 2 ^ 31) (kk : J Γ (pu h a (eL N (vp_updL f j x))) k n nx lv st) : J Γ h k n pc lv (.long x :: .int (nI j) :: .ref a :: st) := by
  obtain ⟨p, l', e, R, s, m, args, below, meth, co, D', A, Q⟩ := Γ
  obtain ⟨rfl, rfl, rfl, hx, hb, hml, hown, hts, hK, hA, hlk, hE⟩ := X
  obtain ⟨hd, rfl⟩ := d
  intro H locs ls hh hS hl
  obtain ⟨q0, hq0⟩ := wl_at (D := D') ha (hh.lt ha)
  refine va_last hx hb hK (wl_P hh) (wl_D hh) hS q0 3 hq0 rfl (vp_in_nI hj hN) hd (fun H1 locs1 hP1 hD1 hS1 => ?_)
  rw [nI_clamp (by omega)] at hP1
  exact kk H1 locs1 ls (wl_set (e := eL N (vp_updL f j x)) hh.at ha hq0 hP1) hS1 hl
/-- a Runner into a row of Runners -/
theorem J_rast (X : Cx l D cc own nL rm Γ) {a v N j : Nat} {f : Nat → Option Nat} {fs : List Value} (d : At cc pc .aastore 1 nx) (ha : h a = some (eR N f)) (hv : h v = some (eo 10 fs)) (hj : j < N) (hN : N < 2 ^ 31) (kk : J Γ (pu h a (eR N (va_up f j (some v)))) k n nx lv st) : J Γ h k n pc lv (.ref v :: .int (nI j) :: .ref a :: st) := by
  obtain ⟨p, l', e, R, s, m, args, below, meth, co, D', A, Q⟩ := Γ
  obtain ⟨rfl, rfl, rfl, hx, hb, hml, hown, hts, hK, hA, hlk, hE⟩ := X
  obtain ⟨hd, rfl⟩ := d
  intro H locs ls hh hS hl
  obtain ⟨q0, hq0⟩ := wl_at (D := D') ha (hh.lt ha)
  obtain ⟨q1, hq1⟩ := wl_at (D := D') hv (hh.lt hv)
  refine va_astq (r := (RX5, TX5, 4)) hx hb hK (wl_P hh) (wl_D hh) hS q0 4 q1 10 hq0 rfl hq1 rfl (vp_in_nI hj hN) hd (fun H1 locs1 hP1 hD1 hS1 => ?_)
  rw [nI_clamp (by omega)] at hP1
  exact kk H1 locs1 ls (wl_set (e := eR N (va_up f j (some v))) hh.at ha hq0 hP1) hS1 hl
theorem J_rastN (X : Cx l D cc own nL rm Γ) {a N j : Nat} {f : Nat → Option Nat} (d : At cc pc .aastore 1 nx) (ha : h a = some (eR N f)) (hj : j < N) (hN : N < 2 ^ 31) (kk : J Γ (pu h a (eR N (va_up f j none))) k n nx lv st) : J Γ h k n pc lv (.null :: .int (nI j) :: .ref a :: st) := by
  obtain ⟨p, l', e, R, s, m, args, below, meth, co, D', A, Q⟩ := Γ
  obtain ⟨rfl, rfl, rfl, hx, hb, hml, hown, hts, hK, hA, hlk, hE⟩ := X
  obtain ⟨hd, rfl⟩ := d
  intro H locs ls hh hS hl
  obtain ⟨q0, hq0⟩ := wl_at (D := D') ha (hh.lt ha)
  refine va_astqN hx hb hK (wl_P hh) (wl_D hh) hS q0 4 hq0 rfl (vp_in_nI hj hN) hd (fun H1 locs1 hP1 hD1 hS1 => ?_)
  rw [nI_clamp (by omega)] at hP1
  exact kk H1 locs1 ls (wl_set (e := eR N (va_up f j none)) hh.at ha hq0 hP1) hS1 hl
/-- an object into a row of Objects -/
theorem J_oast (X : Cx l D cc own nL rm Γ) {a v N j ci : Nat} {f : Nat → Option Nat} {fs : List Value} {r : vw_C} (d : At cc pc .aastore 1 nx) (ha : h a = some (eO N f)) (hv : h v = some (eo ci fs)) (hc : vwCl[ci]? = some r) (hca : Cond.castable r.1 "java/lang/Object" ∈ lw_tbl) (hj : j < N) (hN : N < 2 ^ 31) (kk : J Γ (pu h a (eO N (va_up f j (some v)))) k n nx lv st) : J Γ h k n pc lv (.ref v :: .int (nI j) :: .ref a :: st) := by
  obtain ⟨p, l', e, R, s, m, args, below, meth, co, D', A, Q⟩ := Γ
  obtain ⟨rfl, rfl, rfl, hx, hb, hml, hown, hts, hK, hA, hlk, hE⟩ := X
  obtain ⟨hd, rfl⟩ := d
  intro H locs ls hh hS hl
  obtain ⟨q0, hq0⟩ := wl_at (D := D') ha (hh.lt ha)
  obtain ⟨q1, hq1⟩ := wl_at (D := D') hv (hh.lt hv)
  refine va_astqO hx hb hK (wl_P hh) (wl_D hh) hS q0 5 q1 ci hq0 rfl (hE.tw _ hca rfl) hq1 hc (vp_in_nI hj hN) hd (fun H1 locs1 hP1 hD1 hS1 => ?_)
  rw [nI_clamp (by omega)] at hP1
  exact kk H1 locs1 ls (wl_set (e := eO N (va_up f j (some v))) hh.at ha hq0 hP1) hS1 hl
theorem J_oastN (X : Cx l D cc own nL rm Γ) {a N j : Nat} {f : Nat → Option Nat} (d : At cc pc .aastore 1 nx) (ha : h a = some (eO N f)) (hj : j < N) (hN : N < 2 ^ 31) (kk : J Γ (pu h a (eO N (va_up f j none))) k n nx lv st) : J Γ h k n pc lv (.null :: .int (nI j) :: .ref a :: st) := by
  obtain ⟨p, l', e, R, s, m, args, below, meth, co, D', A, Q⟩ := Γ
  obtain ⟨rfl, rfl, rfl, hx, hb, hml, hown, hts, hK, hA, hlk, hE⟩ := X
  obtain ⟨hd, rfl⟩ := d
  intro H locs ls hh hS hl
  obtain ⟨q0, hq0⟩ := wl_at (D := D') ha (hh.lt ha)
  refine va_astqN hx hb hK (wl_P hh) (wl_D hh) hS q0 5 hq0 rfl (vp_in_nI hj hN) hd (fun H1 locs1 hP1 hD1 hS1 => ?_)
  rw [nI_clamp (by omega)] at hP1
  exact kk H1 locs1 ls (wl_set (e := eO N (va_up f j none)) hh.at ha hq0 hP1) hS1 hl
theorem J_alen (X : Cx l D cc own nL rm Γ) {a kd : Nat} {x : vp_A} (d : At cc pc .arraylength 1 nx) (ha : h a = some (.inl (kd, x))) (hkd : Nat.ble kd 5 = true) (kk : J Γ h k n nx lv (.int (nI x.1) :: st)) : J Γ h k n pc lv (.ref a :: st) := by
  obtain ⟨p, l', e, R, s, m, args, below, meth, co, D', A, Q⟩ := Γ
  obtain ⟨rfl, rfl, rfl, hx, hb, hml, hown, hts, hK, hA, hlk, hE⟩ := X
  obtain ⟨hd, rfl⟩ := d
  intro H locs ls hh hS hl
  obtain ⟨q0, hq0⟩ := wl_at (D := D') ha (hh.lt ha)
  have hkd := Nat.le_of_ble_eq_true hkd
  rcases (show kd = 0 ∨ kd = 1 ∨ kd = 2 ∨ kd = 3 ∨ kd = 4 ∨ kd = 5 by omega) with rfl | rfl | rfl | rfl | rfl | rfl
  · exact va_alen (v := nI x.1) hx hb hK (wl_P hh) q0 0 hq0 rfl rfl hd (kk H locs ls hh hS hl)
  · exact va_alen (v := nI x.1) hx hb hK (wl_P hh) q0 1 hq0 rfl rfl hd (kk H locs ls hh hS hl)
  · exact va_alen (v := nI x.1) hx hb hK (wl_P hh) q0 2 hq0 rfl rfl hd (kk H locs ls hh hS hl)
  · exact va_alen (v := nI x.1) hx hb hK (wl_P hh) q0 3 hq0 rfl rfl hd (kk H locs ls hh hS hl)
  · exact va_alen (v := nI x.1) hx hb hK (wl_P hh) q0 4 hq0 rfl rfl hd (kk H locs ls hh hS hl)
  · exact va_alen (v := nI x.1) hx hb hK (wl_P hh) q0 5 hq0 rfl rfl hd (kk H locs ls hh hS hl)
theorem J_newI (X : Cx l D cc own nL rm Γ) {N : Nat} (d : At cc pc (.newarray .int) 2 nx) (harr : Cond.arrayClass .int ∈ lw_all) (hN : N ≤ 65536) (hk : k + 1 ≤ rm.cells) (hn : n + N ≤ rm.slots) (kk : ∀ q, h q = none → J Γ (pu h q (eI N (fun _ => 0))) (k + 1) (n + N) nx lv (.ref q :: st)) : J Γ h k n pc lv (.int (nI N) :: st) := by
  obtain ⟨p, l', e, R, s, m, args, below, meth, co, D', A, Q⟩ := Γ
  obtain ⟨rfl, rfl, rfl, hx, hb, hml, hown, hts, hK, hA, hlk, hE⟩ := X
  obtain ⟨hd, rfl⟩ := d
  intro H locs ls hh hS hl
  refine va_newa (atype := .int) (ty := .int) (a0 := (N, .inl (fun _ => 0))) hx hb (hts _ harr) rfl hK (wl_P hh) (wl_D hh) hS hA (fun cA => rfl) (nI_pos (by omega)) (nI_clamp (by omega)) (by show N * 4 ≤ _; omega) hk hn hd (fun q cA H1 hK1 hP1 hD1 hS1 => ?_)
  have e1 : cA = D'.1 100 := Option.some.inj ((hK1.2 6 (cA, .int) rfl).2.symm.trans (hK.2 0 (D'.1 100, .int) rfl).2)
  subst e1
  obtain ⟨g1, g2⟩ := wl_push (e := eI N (fun _ => 0)) hh.at hP1 hD1
  exact kk q g1 H1 locs ls g2 hS1 hl
theorem J_newB (X : Cx l D cc own nL rm Γ) {N : Nat} (d : At cc pc (.newarray .byte) 2 nx) (harr : Cond.arrayClass .byte ∈ lw_all) (hN : N ≤ 65536) (hk : k + 1 ≤ rm.cells) (hn : n + N ≤ rm.slots) (kk : ∀ q, h q = none → J Γ (pu h q (eB N (fun _ => 0))) (k + 1) (n + N) nx lv (.ref q :: st)) : J Γ h k n pc lv (.int (nI N) :: st) := by
  obtain ⟨p, l', e, R, s, m, args, below, meth, co, D', A, Q⟩ := Γ
  obtain ⟨rfl, rfl, rfl, hx, hb, hml, hown, hts, hK, hA, hlk, hE⟩ := X
  obtain ⟨hd, rfl⟩ := d
  intro H locs ls hh hS hl
  refine va_newa (atype := .byte) (ty := .byte) (a0 := (N, .inl (fun _ => 0))) hx hb (hts _ harr) rfl hK (wl_P hh) (wl_D hh) hS hA (fun cA => rfl) (nI_pos (by omega)) (nI_clamp (by omega)) (by show N * 1 ≤ _; omega) hk hn hd (fun q cA H1 hK1 hP1 hD1 hS1 => ?_)
  have e1 : cA = D'.1 101 := Option.some.inj ((hK1.2 6 (cA, .byte) rfl).2.symm.trans (hK.2 1 (D'.1 101, .byte) rfl).2)
  subst e1
  obtain ⟨g1, g2⟩ := wl_push (e := eB N (fun _ => 0)) hh.at hP1 hD1
  exact kk q g1 H1 locs ls g2 hS1 hl
theorem J_newZ (X : Cx l D cc own nL rm Γ) {N : Nat} (d : At cc pc (.newarray .boolean) 2 nx) (harr : Cond.arrayClass .boolean ∈ lw_all) (hN : N ≤ 65536) (hk : k + 1 ≤ rm.cells) (hn : n + N ≤ rm.slots) (kk : ∀ q, h q = none → J Γ (pu h q (eZ N (fun _ => 0))) (k + 1) (n + N) nx lv (.ref q :: st)) : J Γ h k n pc lv (.int (nI N) :: st) := by
  obtain ⟨p, l', e, R, s, m, args, below, meth, co, D', A, Q⟩ := Γ
  obtain ⟨rfl, rfl, rfl, hx, hb, hml, hown, hts, hK, hA, hlk, hE⟩ := X
  obtain ⟨hd, rfl⟩ := d
  intro H locs ls hh hS hl
  refine va_newa (atype := .boolean) (ty := .boolean) (a0 := (N, .inl (fun _ => 0))) hx hb (hts _ harr) rfl hK (wl_P hh) (wl_D hh) hS hA (fun cA => rfl) (nI_pos (by omega)) (nI_clamp (by omega)) (by show N * 1 ≤ _; omega) hk hn hd (fun q cA H1 hK1 hP1 hD1 hS1 => ?_)
  have e1 : cA = D'.1 102 := Option.some.inj ((hK1.2 6 (cA, .boolean) rfl).2.symm.trans (hK.2 2 (D'.1 102, .boolean) rfl).2)
  subst e1
  obtain ⟨g1, g2⟩ := wl_push (e := eZ N (fun _ => 0)) hh.at hP1 hD1
  exact kk q g1 H1 locs ls g2 hS1 hl
theorem J_newL (X : Cx l D cc own nL rm Γ) {N : Nat} (d : At cc pc (.newarray .long) 2 nx) (harr : Cond.arrayClass .long ∈ lw_all) (hN : N ≤ 65536) (hk : k + 1 ≤ rm.cells) (hn : n + N ≤ rm.slots) (kk : ∀ q, h q = none → J Γ (pu h q (eL N (fun _ => 0))) (k + 1) (n + N) nx lv (.ref q :: st)) : J Γ h k n pc lv (.int (nI N) :: st) := by
  obtain ⟨p, l', e, R, s, m, args, below, meth, co, D', A, Q⟩ := Γ
  obtain ⟨rfl, rfl, rfl, hx, hb, hml, hown, hts, hK, hA, hlk, hE⟩ := X
  obtain ⟨hd, rfl⟩ := d
  intro H locs ls hh hS hl
  refine va_newa (atype := .long) (ty := .long) (a0 := (N, .inr (.inl (fun _ => 0)))) hx hb (hts _ harr) rfl hK (wl_P hh) (wl_D hh) hS hA (fun cA => rfl) (nI_pos (by omega)) (nI_clamp (by omega)) (by show N * 8 ≤ _; omega) hk hn hd (fun q cA H1 hK1 hP1 hD1 hS1 => ?_)
  have e1 : cA = D'.1 103 := Option.some.inj ((hK1.2 6 (cA, .long) rfl).2.symm.trans (hK.2 3 (D'.1 103, .long) rfl).2)
  subst e1
  obtain ⟨g1, g2⟩ := wl_push (e := eL N (fun _ => 0)) hh.at hP1 hD1
  exact kk q g1 H1 locs ls g2 hS1 hl
theorem ra_in {s : State} {cA cB : ClassId} {C : String} (h1 : va_RA s cA (.object C)) (h2 : va_RA s cB (.object C)) : cA = cB := by
  obtain ⟨_, _, _, _, _, f1⟩ := h1
  obtain ⟨_, _, _, _, _, f2⟩ := h2
  exact Option.some.inj (f1.symm.trans f2)
theorem J_newR (X : Cx l D cc own nL rm Γ) {N ix : Nat} (d : At cc pc (.anewarray ix) 3 nx) (hcl : Cond.classLink own ix "LeadRaces$Runner" ∈ lw_all) (hov : Cond.arrayOver (.object "LeadRaces$Runner") ∈ lw_tbl) (hN : N ≤ 65536) (hk : k + 1 ≤ rm.cells) (hn : n + N ≤ rm.slots) (kk : ∀ q, h q = none → J Γ (pu h q (eR N (fun _ => none))) (k + 1) (n + N) nx lv (.ref q :: st)) : J Γ h k n pc lv (.int (nI N) :: st) := by
  obtain ⟨p, l', e, R, s, m, args, below, meth, co, D', A, Q⟩ := Γ
  obtain ⟨rfl, rfl, rfl, hx, hb, hml, hown, hts, hK, hA, hlk, hE⟩ := X
  obtain ⟨hd, rfl⟩ := d
  intro H locs ls hh hS hl
  refine va_newq hx hb hown (hts _ hcl) (va_AO.of (hE.tw _ hov rfl)) hK (wl_P hh) (wl_D hh) hS hA (nI_pos (by omega)) (nI_clamp (by omega)) (by omega) hk hn hd (fun q cA H1 hK1 hP1 hD1 hS1 => ?_)
  have e1 : cA = D'.1 104 := ra_in (hK1.2 6 (cA, _) rfl).2 (hK.2 4 (D'.1 104, _) rfl).2
  subst e1
  obtain ⟨g1, g2⟩ := wl_push (e := eR N (fun _ => none)) hh.at hP1 hD1
  exact kk q g1 H1 locs ls g2 hS1 hl
theorem J_newO (X : Cx l D cc own nL rm Γ) {N ix : Nat} (d : At cc pc (.anewarray ix) 3 nx) (hcl : Cond.classLink own ix "java/lang/Object" ∈ lw_all) (hov : Cond.arrayOver (.object "java/lang/Object") ∈ lw_tbl) (hN : N ≤ 65536) (hk : k + 1 ≤ rm.cells) (hn : n + N ≤ rm.slots) (kk : ∀ q, h q = none → J Γ (pu h q (eO N (fun _ => none))) (k + 1) (n + N) nx lv (.ref q :: st)) : J Γ h k n pc lv (.int (nI N) :: st) := by
  obtain ⟨p, l', e, R, s, m, args, below, meth, co, D', A, Q⟩ := Γ
  obtain ⟨rfl, rfl, rfl, hx, hb, hml, hown, hts, hK, hA, hlk, hE⟩ := X
  obtain ⟨hd, rfl⟩ := d
  intro H locs ls hh hS hl
  refine va_newq hx hb hown (hts _ hcl) (va_AO.of (hE.tw _ hov rfl)) hK (wl_P hh) (wl_D hh) hS hA (nI_pos (by omega)) (nI_clamp (by omega)) (by omega) hk hn hd (fun q cA H1 hK1 hP1 hD1 hS1 => ?_)
  have e1 : cA = D'.1 105 := ra_in (hK1.2 6 (cA, _) rfl).2 (hK.2 5 (D'.1 105, _) rfl).2
  subst e1
  obtain ⟨g1, g2⟩ := wl_push (e := eO N (fun _ => none)) hh.at hP1 hD1
  exact kk q g1 H1 locs ls g2 hS1 hl
end JA
abbrev okY (y : MethodName) (n : Nat) : Prop := y.cls ≠ "java/lang/invoke/MethodHandle" ∧ y.cls ≠ "java/lang/invoke/VarHandle" ∧ (parseMethodDescriptor y.desc).map (fun d => d.parameters.length) = some n
section JK
variable {l : Launch} {D : va_G} {cc : ByteArray} {own : String} {nL : Nat} {rm : Room} {Γ : Cxt} {h : PH} {k n pc nx : Nat} {lv : List (Nat × Value)} {st rest : List Value}
variable {y : MethodName} {cc' : ByteArray} {nL' ix : Nat} {ret : Option FieldType} {rm' : Room} {As : List Value} {Post : Option Value → PH → Prop}
theorem Pv.blind {D : va_G} {h : PH} {sz : Nat} {av : List Value} : FrameBlind (va_Pc av (Pv D h sz)) := by
  intro a U g mk q
  obtain ⟨q0, q1, q2, q3, q4⟩ := q
  exact ⟨q0, q1, q2, va_K.moved (u := U) (U := U.calling g mk a) (Vm.Alike.refl U.vm) q3, Ev.warm (s := U) (U := U.calling g mk a) (State.WarmedH.refl U) q4⟩
theorem Pv.to {D : va_G} {A : Nat → Prop} {h : PH} {H : Heap} {locs : List Loc} {s U : State} (hh : hw D A h H) (hS : va_S A s.heap H locs) (hA : ∀ q, s.heap.size ≤ q → A q) (hK : va_K D vwCl (tys6 D) s) (hE : Ev D A s s.heap) (hU : U.heap = H) (hW : s.WarmedH U.vm) : Pv D h H.size U := by
  refine ⟨by rw [hU], by rw [hU]; exact hh.weaken (fun _ _ => trivial), va_K.moved hW.alike hK, ?_⟩
  rw [hU]
  exact Ev.narrow (Ev.warm hW (Ev.kept hE hS.2.1)) (dm_in hh hA hS.1)
theorem J_after {p : Program} {l : Launch} {e : Env} {R : Room} {s : State} {m : MethodId} {args : Array Value} {below : List Frame} {meth : Method} {c : Code} {H : Heap} {locs : List Loc} {A A1 : Nat → Prop} {Q : State → Prop} {ls : Array Slot} {st0 : List Value} {a : Array Value} {mc ms : Nat}
    (hr : va_Run p l e R s m args below meth c H locs k n mc ms (F0 m pc ls st0) rest (Qp D A1 Post a) A1) (hS : va_S A s.heap H locs) (hsub : ∀ q, A1 q → A q)
    (kk : ∀ (v : Option Value) (h' : PH) (H1 : Heap) (locs1 : List Loc), Post v h' → hw D A h' H1 → va_S A s.heap H1 locs1 → W p l e R s m args below meth c H1 locs1 (k + mc) (n + ms) Q (F0 m (pc + 3) ls (v.toList ++ rest))) : W p l e R s m args below meth c H locs k n Q (F0 m pc ls st0) := by
  intro T hT X
  obtain ⟨v, st₀, t, T', L, h0, X', hL, e1, e2, ⟨v', h', hv, hp, hh', hz, hk⟩, st⟩ := hr T hT X
  cases hv
  rw [h0] at hz hk
  obtain ⟨t2, a1, b1⟩ := kk v h' T'.heap (locs ++ L) hp (by rw [e1]; exact hh'.weaken hsub)
    ⟨Nat.le_trans hS.1 (by rw [e1]; exact hz), fun q h1 h2 => by rw [e1, hk q (Nat.lt_of_lt_of_le h1 hS.1) (fun z => h2 (hsub q z))]; exact hS.2.1 q h1 h2, fun q hq => by
      rcases List.mem_append.mp hq with h | h
      · exact hS.2.2 q h
      · exact hsub _ (hL q h)⟩ T' rfl X'
  exact ⟨t2, st t2 a1, b1⟩
theorem hw.recv {s : State} {H : Heap} {D : va_G} {A : Nat → Prop} {h : PH} {a ci : Nat} {q : vw_C} {fs : List Value} (hK : va_K D vwCl (tys6 D) s) (hh : hw D A h H) (hc : vwCl[ci]? = some q) (ha : h a = some (eo ci fs)) : ∃ cell : Cell, H[a]? = some cell ∧ cell.vm.isStatics = false ∧ s.vm.findClass q.1 = some cell.cls := by
  obtain ⟨q0, hq0⟩ := wl_at (D := D) ha (hh.lt ha)
  exact va_recv hK (wl_P hh) hc hq0
theorem J_callV (X : Cx l D cc own nL rm Γ) {b ci N : Nat} {T : u_T} {fs : List Value} (d : At cc pc (.invokevirtual ix) 3 nx) (hC : Ct l D y cc' nL' ret rm' (.ref b :: As) h Post) (hg : GoodIn lw_all (wsV own ix y.cls y (ws_ y cc' nL' ret))) {na : Nat} (hd2 : okY y na) (hna : As.length = na)
    (hb : h b = some (eo ci fs)) (hc : vwCl[ci]? = some (y.cls, T, N)) (hR : rm'.frames + 1 ≤ rm.frames ∧ 8 + (nL' + 11) + rm'.locals ≤ rm.locals) (hs : st = As.reverse ++ .ref b :: rest) (hst : (rest.map fun v => v.category).sum ≤ 8) (hk : k + rm'.cells ≤ rm.cells) (hn : n + rm'.slots ≤ rm.slots)
    (kk : ∀ (v : Option Value) (h' : PH), Post v h' → J Γ h' (k + rm'.cells) (n + rm'.slots) nx lv (v.toList ++ rest)) : J Γ h k n pc lv st := by
  obtain ⟨p, l', e, R, s, m, args, below, meth, co, D', A, Q⟩ := Γ
  obtain ⟨rfl, rfl, rfl, hx, hb2, hml, hown, hts, hK, hA, hlk, hE⟩ := X
  obtain ⟨hd, rfl⟩ := d
  intro H locs ls hh hS hl
  have hsub := dm_in hh hA hS.1
  refine J_after (va_runV (As := As) (rest := rest) (C := y.cls) ⟨hx, hb2, hml, hown, hts⟩ (hC H.size) (cwV na hts hg rfl rfl rfl ⟨rfl, hd2⟩ hR) ⟨Pv.blind, hw.recv hK hh hc hb, fun U hU hW => ⟨rfl, Pv.to hh hS hA hK hE hU hW⟩⟩ rfl hna (by rw [← hml]; exact hl.1) hs (lv_room hst) hd ⟨hk, hn⟩) hS hsub (fun v h' H1 locs1 hp hh1 hS1 => ?_)
  exact kk v h' hp H1 locs1 ls hh1 hS1 hl
theorem J_callS (X : Cx l D cc own nL rm Γ) (d : At cc pc (.invokestatic ix) 3 nx) (hC : Ct l D y cc' nL' ret rm' As h Post) (hg : GoodIn lw_all (va_wsS own ix y (ws_ y cc' nL' ret))) {na : Nat} (hd2 : okY y na) (hna : As.length = na)
    (hR : rm'.frames + 1 ≤ rm.frames ∧ 8 + (nL' + 11) + rm'.locals ≤ rm.locals) (hs : st = As.reverse ++ rest) (hst : (rest.map fun v => v.category).sum ≤ 8) (hk : k + rm'.cells ≤ rm.cells) (hn : n + rm'.slots ≤ rm.slots)
    (kk : ∀ (v : Option Value) (h' : PH), Post v h' → J Γ h' (k + rm'.cells) (n + rm'.slots) nx lv (v.toList ++ rest)) : J Γ h k n pc lv st := by
  obtain ⟨p, l', e, R, s, m, args, below, meth, co, D', A, Q⟩ := Γ
  obtain ⟨rfl, rfl, rfl, hx, hb2, hml, hown, hts, hK, hA, hlk, hE⟩ := X
  obtain ⟨hd, rfl⟩ := d
  intro H locs ls hh hS hl
  have hsub := dm_in hh hA hS.1
  refine J_after (va_runS (As := As) (rest := rest) ⟨hx, hb2, hml, hown, hts⟩ (hC H.size) (va_cwS na hts hg rfl rfl rfl hd2 hR) ⟨Pv.blind, fun U hU hW => ⟨rfl, Pv.to hh hS hA hK hE hU hW⟩⟩ rfl hna (by rw [← hml]; exact hl.1) hs (lv_room hst) hd ⟨hk, hn⟩) hS hsub (fun v h' H1 locs1 hp hh1 hS1 => ?_)
  exact kk v h' hp H1 locs1 ls hh1 hS1 hl
theorem J_callI (X : Cx l D cc own nL rm Γ) {b : Nat} (d : At cc pc (.invokespecial ix) 3 nx) (hC : Ct l D y cc' nL' none rm' (.ref b :: As) h Post) (hg : GoodIn lw_all (ws_ y cc' nL' none)) (hini : Cond.initialized y.cls ∈ lw_all) (hl1 : Cond.methodLink own ix y ∈ lw_all) (hin : Cond.instanceMethod y ∈ lw_all) (hnm : y.name = "<init>") {na : Nat} (hd2 : okY y na) (hna : As.length = na)
    (hR : rm'.frames + 1 ≤ rm.frames ∧ 8 + (nL' + 11) + rm'.locals ≤ rm.locals) (hs : st = As.reverse ++ .ref b :: rest) (hst : (rest.map fun v => v.category).sum ≤ 8) (hk : k + rm'.cells ≤ rm.cells) (hn : n + rm'.slots ≤ rm.slots)
    (kk : ∀ (v : Option Value) (h' : PH), Post v h' → J Γ h' (k + rm'.cells) (n + rm'.slots) nx lv (v.toList ++ rest)) : J Γ h k n pc lv st := by
  obtain ⟨p, l', e, R, s, m, args, below, meth, co, D', A, Q⟩ := Γ
  obtain ⟨rfl, rfl, rfl, hx, hb2, hml, hown, hts, hK, hA, hlk, hE⟩ := X
  obtain ⟨hd, rfl⟩ := d
  intro H locs ls hh hS hl
  have hsub := dm_in hh hA hS.1
  refine J_after (va_runI (As := As) (rest := rest) ⟨hx, hb2, hml, hown, hts⟩ (hC H.size) (cwI na hts hg rfl rfl rfl (hts _ hini) (hts _ hl1) (hts _ hin) hnm hd2 hR) ⟨Pv.blind, fun U hU hW => ⟨rfl, Pv.to hh hS hA hK hE hU hW⟩⟩ rfl hna (by rw [← hml]; exact hl.1) hs (lv_room hst) hd ⟨hk, hn⟩) hS hsub (fun v h' H1 locs1 hp hh1 hS1 => ?_)
  exact kk v h' hp H1 locs1 ls hh1 hS1 hl
/-- Object's constructor -/
theorem J_objI (X : Cx l D cc own nL rm Γ) {b : Nat} (d : At cc pc (.invokespecial ix) 3 nx) (hl1 : Cond.methodLink own ix objectInit ∈ lw_all) (hin : Cond.instanceMethod objectInit ∈ lw_all) (hco : Cond.code objectInit ⟨#[0xb1]⟩ 1 none ∈ lw_all) (hf : 1 ≤ rm.frames) (hlo : (rest.map fun v => v.category).sum + 12 ≤ rm.locals) (kk : J Γ h k n nx lv rest) : J Γ h k n pc lv (.ref b :: rest) := by
  obtain ⟨p, l', e, R, s, m, args, below, meth, co, D', A, Q⟩ := Γ
  obtain ⟨rfl, rfl, rfl, hx, hb2, hml, hown, hts, hK, hA, hlk, hE⟩ := X
  obtain ⟨hd, rfl⟩ := d
  intro H locs ls hh hS hl
  refine W.objInit hx hb2 hown (hts _ hl1) (hts _ hin) (hts _ hco) rfl hl.1 rfl hd hf (by show 2 * 0 + _ + 12 ≤ _; omega) ?_
  exact kk H locs ls hh hS hl
end JK
