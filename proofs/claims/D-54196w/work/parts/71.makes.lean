/-! printed by gen/compw.py -/
set_option maxRecDepth 100000
theorem q2192 : (Jvm.Cond.instantiable "java/lang/Object" (0 : Nat)) ∈ lw_all := lw_g (lw_at lw_m9 204 rfl) rfl
theorem shape_3 {α : Type} {x : Array Nat} {f : Nat → Nat → Nat → Option α} {r : α} (h : Lambda.shapeOf?.match_15 (fun _ => Option α) x f (fun _ => none) = some r) : ∃ a0 a1 a2, f a0 a1 a2 = some r := by
  rcases x with ⟨L⟩
  match L, h with
  | [], h => cases h
  | [_], h => cases h
  | [_, _], h => cases h
  | [a, b, c], h => exact ⟨a, b, c, h⟩
  | _ :: _ :: _ :: _ :: _, h => cases h
theorem shape_site {cf : ClassFile} {index : Nat} {σ : Lambda.Shape} (h : Lambda.shapeOf? cf index = some σ) :
    ∃ (b nt : Nat) (desc : String) (site : MethodDescriptor), cf.constantPool[index]? = some (.invokeDynamic b nt) ∧ cf.constantPool.nameAndType? nt = some (σ.name, desc) ∧ parseMethodDescriptor desc = some site ∧ site.parameters = σ.captured := by
  unfold Lambda.shapeOf? at h
  split at h
  · rename_i b nt hc
    obtain ⟨entries, -, h⟩ := Option.bind_eq_some_iff.mp h
    obtain ⟨bm, -, h⟩ := Option.bind_eq_some_iff.mp h
    split at h
    · obtain ⟨_, -, h⟩ := Option.bind_eq_some_iff.mp h
      obtain ⟨a0, a1, a2, h⟩ := shape_3 h
      · split at h
        · split at h
          · split at h
            · obtain ⟨⟨name, desc⟩, hnt, h⟩ := Option.bind_eq_some_iff.mp h
              obtain ⟨site, hsite, h⟩ := Option.bind_eq_some_iff.mp h
              split at h
              · obtain ⟨⟨c9, n9, d9, i9⟩, -, h⟩ := Option.bind_eq_some_iff.mp h
                obtain ⟨x1, -, h⟩ := Option.bind_eq_some_iff.mp h
                obtain ⟨x2, -, h⟩ := Option.bind_eq_some_iff.mp h
                obtain ⟨x3, -, h⟩ := Option.bind_eq_some_iff.mp h
                obtain ⟨x4, -, h⟩ := Option.bind_eq_some_iff.mp h
                obtain ⟨x5, -, h⟩ := Option.bind_eq_some_iff.mp h
                cases h
                exact ⟨b, nt, desc, site, hc, hnt, hsite, rfl⟩
              · cases h
            · cases h
          · cases h
        · cases h
    · cases h
  · cases h
/-- the object of the site j: the captured ints f -/
abbrev eM (j n : Nat) (f : Nat → Int32) : va_E := .inl (200 + j, n, .inl f)
def ivs (n : Nat) (f : Nat → Int32) : List Value := (List.range n).map (fun i => .int (f i))
/-- the method's name -/
def Nm (y : MethodName) (Γ : Cxt) : Prop := match Γ with
  | (_, _, _, _, s, m, _, _, _, _, _, _, _) => s.methodNamed? y = some m
theorem obj_0 {args : Array Value} {s : State} (hts : ∀ w ∈ lw_all, w.before args s = true) : ∀ o ok, s.vm.findClass "java/lang/Object" = some o → s.vm.classes[o]? = some ok → ok.instanceTypes = #[] := by
  intro o ok h1 h2
  obtain ⟨cO, kO, hfO, hkO, -, -, -, hsz⟩ := Cond.instantiable_spec (hts _ q2192)
  cases hfO.symm.trans h1
  cases hkO.symm.trans h2
  exact Array.eq_empty_of_size_eq_zero hsz
theorem ivs_len (n : Nat) (f : Nat → Int32) : (ivs n f).length = n := by simp [ivs]
theorem ivs_nar (n : Nat) (f : Nat → Int32) : (((List.replicate n FieldType.int).toArray.toList.zip (ivs n f)).map fun (t, v) => narrow t v) = ivs n f := by
  apply List.ext_getElem
  · simp [ivs]
  · intro i h1 h2
    simp [ivs, narrow]
theorem ivs_arr (n : Nat) (f : Nat → Int32) : (ivs n f).toArray = Array.ofFn (n := n) fun j => Value.int (f j.val) := by
  apply Array.ext
  · simp [ivs]
  · intro i h1 h2
    simp [ivs]
section JL
variable {l : Launch} {D : va_G} {cc : ByteArray} {own : String} {nL : Nat} {rm : Room} {Γ : Cxt} {h : PH} {k n nx : Nat} {lv : List (Nat × Value)} {st rest : List Value}
set_option maxHeartbeats 4000000 in
/-- a lambda is made -/
theorem J_makes (X : Cx l D cc own nL rm Γ) {j : Nat} {q : MethodName × Nat × Nat × Nat × String × String} (hj : lsT[j]? = some q) (hnm : Nm q.1 Γ) {f : Nat → Int32} (d : At cc q.2.1 (.invokedynamic q.2.2.1) 5 nx) (hs : st = (ivs q.2.2.2.1 f).reverse ++ rest)
    (hst : (st.map fun v => v.category).sum + 3072 ≤ rm.locals) (hk : k + 1 ≤ rm.cells) (hn : n + q.2.2.2.1 ≤ rm.slots) (kk : ∀ z, h z = none → J Γ (pu h z (eM j q.2.2.2.1 f)) (k + 1) (n + q.2.2.2.1) nx lv (.ref z :: rest)) : J Γ h k n q.2.1 lv st := by
  obtain ⟨p, l', e, R, s, m, args, below, meth, co, D', A, Q⟩ := Γ
  obtain ⟨rfl, rfl, rfl, hx, hb, hml, hown, hts, hK, hA, hlk, hE⟩ := X
  obtain ⟨hd, rfl⟩ := d
  have hq : q ∈ lsT := List.mem_of_getElem? hj
  intro H locs ls hh hS hl T hT X2
  obtain ⟨m', k9, cf, i0, p0, h1, h2, h3, h4, h5, h6, h7⟩ := hE.2.2.2.1.1 j q hj
  have hnm' : s.methodNamed? q.1 = some m := hnm
  cases hnm'.symm.trans h1
  obtain ⟨k8, hk8, hname⟩ := className_of_methodNamed h1
  cases h2.symm.trans hk8
  rw [l_own q hq] at hname
  obtain ⟨bsm, nt, desc, site, hc, hnt, hsite, hpar⟩ := shape_site h4
  obtain ⟨kK, tk, file, methk, ck, toy, t, hkK, -, -, -, htyK, hkindK, -⟩ := made_f hq h2 hname h6 (obj_0 hts)
  have hsl : ((kK.instanceTypes.toList.zip (ivs q.2.2.2.1 f)).map fun (t, v) => narrow t v) = ivs q.2.2.2.1 f := by
    rw [htyK]
    exact ivs_nar _ _
  have hlen : (ivs q.2.2.2.1 f).length = q.2.2.2.1 := ivs_len _ _
  obtain ⟨X3, st1⟩ := X2.lambdaMakes hx (g := F0 m q.2.1 ls st) rfl hl.1 (by rw [hb]; exact hd) (vals := ivs q.2.2.2.1 f) (rest := rest) h2 h5 h3 hc hnt (parseLong_of_parse hsite) (by rw [hpar, hlen]; simp [shp]) hs hkK
    (by rw [X2.admits.platform]; show 2 * 0 + (st.map fun v => v.category).sum + 3072 ≤ _; omega) hk (by rw [hsl, hlen]; exact hn)
    (fun i v hv => by
      rw [hsl] at hv
      have hi : i < q.2.2.2.1 := by
        have := (Array.getElem?_eq_some_iff.mp hv).1
        simpa [ivs] using this
      have hv2 : v = .int (f i) := by
        simp [ivs, hi] at hv
        exact hv.symm
      subst hv2
      simp [State.fitsSlot, State.slotType?, hkK, hkindK, htyK, fits, hi])
  rw [hsl, show (ivs q.2.2.2.1 f).toArray.size = q.2.2.2.1 by simp [ivs]] at X3
  rw [hsl] at st1
  have hcell : ({ cls := D'.1 (300 + j), slots := (ivs q.2.2.2.1 f).toArray, vm := .none } : Cell) = vp_cell (D'.1 (300 + j)) (q.2.2.2.1, .inl f) := by
    rw [ivs_arr]
    rfl
  rw [hcell] at X3 st1
  have hfree : h T.heap.size = none := by
    cases hz : h T.heap.size with
    | none => rfl
    | some e9 =>
      have := hh.lt hz
      rw [hT] at this
      omega
  have hheap : (T.pushCell (vp_cell (D'.1 (300 + j)) (q.2.2.2.1, .inl f))).heap = H.push (vp_cell (D'.1 (300 + j)) (q.2.2.2.1, .inl f)) := by
    show T.heap.push _ = _
    rw [hT]
  have hsz : (vp_cell (D'.1 (300 + j)) (q.2.2.2.1, .inl f)).slots.size = q.2.2.2.1 := arrV_size _ _ _
  have hh2 : hw D' A (pu h T.heap.size (eM j q.2.2.2.1 f)) (H.push (vp_cell (D'.1 (300 + j)) (q.2.2.2.1, .inl f))) := by
    intro a e9 ha
    by_cases haz : a = T.heap.size
    · subst haz
      rw [pu_s] at ha
      cases ha
      refine ⟨?_, hA _ (by rw [hT]; exact hS.1)⟩
      show (H.push _)[T.heap.size]? = some (vp_cell (D'.1 (100 + (200 + j))) (q.2.2.2.1, .inl f))
      rw [hT, Array.getElem?_push_size, show 100 + (200 + j) = 300 + j by omega]
    · rw [pu_n haz] at ha
      exact ⟨(hh a e9 ha).1.kept (Array.getElem?_push_lt (hh.lt ha) ▸ (Array.getElem?_eq_getElem (hh.lt ha)).symm ▸ rfl), (hh a e9 ha).2⟩
  have hS2 : va_S A s.heap (H.push (vp_cell (D'.1 (300 + j)) (q.2.2.2.1, .inl f))) locs := by
    refine ⟨by rw [Array.size_push]; have := hS.1; omega, fun a h1 h2 => ?_, hS.2.2⟩
    rw [← hS.2.1 a h1 h2, Array.getElem?_push]
    have := hS.1
    rw [if_neg (by omega)]
  obtain ⟨t9, a1, b1⟩ := kk T.heap.size hfree _ locs ls hh2 hS2 hl _ hheap X3
  exact ⟨t9, st1 t9 a1, b1⟩
end JL
