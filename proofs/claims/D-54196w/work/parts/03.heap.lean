/-! the pure heap: a cell by its address; the list of all its cells, for the kit's rows -/
set_option maxRecDepth 100000
abbrev PH : Type := Nat → Option va_E
/-- an array's kind is a number (0 int, 1 byte, 2 boolean, 3 long, 4 Runner, 5 Object); its class is D.1 (100 + kind) -/
def tr (D : va_G) (e : va_E) : va_E := match e with
  | .inl x => .inl (D.1 (100 + x.1), x.2)
  | .inr o => .inr o
def kty (k : Nat) : FieldType := match k with
  | 0 => .int
  | 1 => .byte
  | 2 => .boolean
  | 3 => .long
  | 4 => .object "LeadRaces$Runner"
  | _ => .object "java/lang/Object"
abbrev tys6 (D : va_G) : List (ClassId × FieldType) := [(D.1 100, .int), (D.1 101, .byte), (D.1 102, .boolean), (D.1 103, .long), (D.1 104, .object "LeadRaces$Runner"), (D.1 105, .object "java/lang/Object")]
abbrev eo (ci : Nat) (fs : List Value) : va_E := .inr (ci, fs)
abbrev eI (n : Nat) (f : Nat → Int32) : va_E := .inl (0, n, .inl f)
abbrev eB (n : Nat) (f : Nat → Int32) : va_E := .inl (1, n, .inl f)
abbrev eZ (n : Nat) (f : Nat → Int32) : va_E := .inl (2, n, .inl f)
abbrev eL (n : Nat) (f : Nat → Int64) : va_E := .inl (3, n, .inr (.inl f))
abbrev eR (n : Nat) (f : Nat → Option Nat) : va_E := .inl (4, n, .inr (.inr (.inr (.inr f))))
abbrev eO (n : Nat) (f : Nat → Option Nat) : va_E := .inl (5, n, .inr (.inr (.inr (.inr f))))
def pu (h : PH) (a : Nat) (e : va_E) : PH := fun q => if q = a then some e else h q
theorem pu_s (h : PH) (a : Nat) (e : va_E) : pu h a e a = some e := if_pos rfl
theorem pu_n {h : PH} {a q : Nat} {e : va_E} (hq : q ≠ a) : pu h a e q = h q := if_neg hq
theorem pu_pu (h : PH) (a : Nat) (e e' : va_E) : pu (pu h a e) a e' = pu h a e' := by
  funext q
  by_cases hq : q = a
  · rw [hq, pu_s, pu_s]
  · rw [pu_n hq, pu_n hq, pu_n hq]
theorem pu_comm {h : PH} {a b : Nat} {e e' : va_E} (hab : a ≠ b) : pu (pu h a e) b e' = pu (pu h b e') a e := by
  funext q
  by_cases hq : q = a
  · rw [hq, pu_n hab, pu_s, pu_s]
  · by_cases hq2 : q = b
    · rw [hq2, pu_s, pu_n (Ne.symm hab), pu_s]
    · rw [pu_n hq2, pu_n hq, pu_n hq, pu_n hq2]
theorem pu_id {h : PH} {a : Nat} {e : va_E} (ha : h a = some e) : pu h a e = h := by
  funext q
  by_cases hq : q = a
  · rw [hq, pu_s, ha]
  · rw [pu_n hq]
/-- the cells stand in the heap H, at addresses of A -/
def hw (D : va_G) (A : Nat → Prop) (h : PH) (H : Heap) : Prop := ∀ (a : Nat) (e : va_E), h a = some e → va_at D vwCl (a, tr D e) H ∧ A a
def wl (D : va_G) (h : PH) (n : Nat) : va_W := (List.range n).filterMap (fun q => (h q).map (fun e => (q, tr D e)))
theorem hw.lt {D : va_G} {A : Nat → Prop} {h : PH} {H : Heap} (hh : hw D A h H) {a : Nat} {e : va_E} (ha : h a = some e) : a < H.size := (hh a e ha).1.lt
theorem wl_mem {D : va_G} {h : PH} {n : Nat} {x : Nat × va_E} : x ∈ wl D h n ↔ ∃ e, x.1 < n ∧ h x.1 = some e ∧ x.2 = tr D e := by
  unfold wl
  rw [List.mem_filterMap]
  constructor
  · rintro ⟨q, hq, hx⟩
    cases hh : h q with
    | none => rw [hh] at hx; cases hx
    | some e =>
      rw [hh] at hx
      cases hx
      exact ⟨e, List.mem_range.mp hq, hh, rfl⟩
  · rintro ⟨e, h1, h2, h3⟩
    refine ⟨x.1, List.mem_range.mpr h1, ?_⟩
    rw [h2]
    show some (x.1, tr D e) = some x
    rw [← h3]
theorem wl_at {D : va_G} {h : PH} {n a : Nat} {e : va_E} (ha : h a = some e) (hn : a < n) : ∃ q0 : Nat, (wl D h n)[q0]? = some (a, tr D e) := List.getElem?_of_mem (wl_mem.mpr ⟨e, hn, ha, rfl⟩)
theorem wl_of {D : va_G} {h : PH} {n k : Nat} {x : Nat × va_E} (hk : (wl D h n)[k]? = some x) : ∃ e, x.1 < n ∧ h x.1 = some e ∧ x.2 = tr D e := wl_mem.mp (List.mem_of_getElem? hk)
theorem wl_P {D : va_G} {A : Nat → Prop} {h : PH} {H : Heap} (hh : hw D A h H) : va_P D vwCl (wl D h H.size) H := by
  intro k x hk
  obtain ⟨e, h1, h2, h3⟩ := wl_of hk
  obtain ⟨a, e'⟩ := x
  subst h3
  exact (hh a e h2).1
theorem wl_inj {D : va_G} {h : PH} (n : Nat) : ∀ (i j : Nat) (p q : Nat × va_E), (wl D h n)[i]? = some p → (wl D h n)[j]? = some q → p.1 = q.1 → i = j := by
  have hpw : (wl D h n).Pairwise (fun x y => x.1 < y.1) := by
    refine List.Pairwise.filterMap _ ?_ List.pairwise_lt_range
    intro a a' haa b hb b' hb'
    cases h1 : h a with
    | none => rw [h1] at hb; cases hb
    | some e1 =>
      cases h2 : h a' with
      | none => rw [h2] at hb'; cases hb'
      | some e2 =>
        rw [h1] at hb; rw [h2] at hb'
        cases hb; cases hb'
        exact haa
  have hg := List.pairwise_iff_getElem.mp hpw
  intro i j p q hi hj hpq
  obtain ⟨l1, e1⟩ := List.getElem?_eq_some_iff.mp hi
  obtain ⟨l2, e2⟩ := List.getElem?_eq_some_iff.mp hj
  rcases Nat.lt_trichotomy i j with c | c | c
  · have := hg i j l1 l2 c
    rw [e1, e2, hpq] at this
    omega
  · exact c
  · have := hg j i l2 l1 c
    rw [e1, e2, hpq] at this
    omega
theorem wl_D {D : va_G} {A : Nat → Prop} {h : PH} {H : Heap} (hh : hw D A h H) : va_D A (wl D h H.size) := by
  refine ⟨wl_inj _, fun k x hk => ?_⟩
  obtain ⟨e, h1, h2, h3⟩ := wl_of hk
  exact (hh x.1 e h2).2
/-- back from the kit's list: a cell was set -/
theorem wl_set {D : va_G} {A : Nat → Prop} {h : PH} {n q0 a : Nat} {e0 e : va_E} {H1 : Heap} (hn : ∀ a e, h a = some e → a < n ∧ A a) (ha : h a = some e0) (h0 : (wl D h n)[q0]? = some (a, tr D e0)) (hP : va_P D vwCl ((wl D h n).set q0 (a, tr D e)) H1) : hw D A (pu h a e) H1 := by
  have hl := (List.getElem?_eq_some_iff.mp h0).1
  intro q e' hq
  by_cases hqa : q = a
  · subst hqa
    rw [pu_s] at hq
    cases hq
    exact ⟨hP q0 _ (List.getElem?_set_self hl), (hn q _ ha).2⟩
  · rw [pu_n hqa] at hq
    obtain ⟨k, hk⟩ := wl_at (D := D) hq (hn q _ hq).1
    have hkq : k ≠ q0 := fun z => by
      subst z
      rw [hk] at h0
      exact hqa (congrArg Prod.fst (Option.some.inj h0))
    exact ⟨hP k _ (by rw [List.getElem?_set_ne (Ne.symm hkq)]; exact hk), (hn q _ hq).2⟩
/-- back from the kit's list: a new cell -/
theorem wl_push {D : va_G} {A : Nat → Prop} {h : PH} {n a : Nat} {e : va_E} {H1 : Heap} (hn : ∀ a e, h a = some e → a < n ∧ A a) (hP : va_P D vwCl (wl D h n ++ [(a, tr D e)]) H1) (hD : va_D A (wl D h n ++ [(a, tr D e)])) : h a = none ∧ hw D A (pu h a e) H1 := by
  have hlast : (wl D h n ++ [(a, tr D e)])[(wl D h n).length]? = some (a, tr D e) := by simp
  have hold : ∀ {q : Nat} {e' : va_E}, h q = some e' → ∃ k : Nat, k < (wl D h n).length ∧ (wl D h n ++ [(a, tr D e)])[k]? = some (q, tr D e') := by
    intro q e' hq
    obtain ⟨k, hk⟩ := wl_at (D := D) hq (hn q _ hq).1
    have hl := (List.getElem?_eq_some_iff.mp hk).1
    exact ⟨k, hl, by rw [List.getElem?_append_left hl]; exact hk⟩
  have hno : h a = none := by
    cases hh : h a with
    | none => rfl
    | some e' =>
      obtain ⟨k, hl, hk⟩ := hold hh
      have := hD.1 k _ _ _ hk hlast rfl
      omega
  refine ⟨hno, ?_⟩
  intro q e' hq
  by_cases hqa : q = a
  · subst hqa
    rw [pu_s] at hq
    cases hq
    exact ⟨hP _ _ hlast, hD.2 _ _ hlast⟩
  · rw [pu_n hqa] at hq
    obtain ⟨k, hl, hk⟩ := hold hq
    exact ⟨hP k _ hk, (hn q _ hq).2⟩
