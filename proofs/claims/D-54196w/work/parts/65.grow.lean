/-! a track that is being made -/
set_option maxRecDepth 100000
def kNoL (k : Nat) : Bool := !(k == 2 || k == 105)
/-- a list of races that grows: a the list, ea its array, n races -/
def Rl (D : va_G) (b h : PH) (a n ea : Nat) (rc : Nat → Nat) (wn ot : Nat → Option Nat) (un : Nat → Int64) (nu la : Nat → Int32) : Prop :=
  b a = none ∧ Ext b h ∧
  h a = some (eo 2 [.int (nI n), .ref (if n = 0 then k0 D else ea), .int (nI n)]) ∧
  (n ≠ 0 → h ea = some (eO 10 (fun i => if i < n then some (rc i) else none)) ∧ b ea = none) ∧
  (∀ i, i < n → h (rc i) = some (eo 4 [va_rf (wn i), va_rf (ot i), .long (un i), .int (nu i), .int (la i)]) ∧ b (rc i) = none) ∧
  (∀ i j, i < n → j < n → rc i = rc j → i = j)
section RL
variable {D : va_G} {b h h' : PH} {a n ea v : Nat} {rc : Nat → Nat} {wn ot : Nat → Option Nat} {un : Nat → Int64} {nu la : Nat → Int32}
theorem Rl.cl (H : Rl D b h a n ea rc wn ot un nu la) : h a = some (eo 2 [.int (nI n), .ref (if n = 0 then k0 D else ea), .int (nI n)]) := H.2.2.1
theorem Rl.ext (H : Rl D b h a n ea rc wn ot un nu la) : Ext b h := H.2.1
theorem Rl.cr (H : Rl D b h a n ea rc wn ot un nu la) {i : Nat} (hi : i < n) : h (rc i) = some (eo 4 [va_rf (wn i), va_rf (ot i), .long (un i), .int (nu i), .int (la i)]) := (H.2.2.2.2.1 i hi).1
theorem Rl.zero (ha : h a = some (eo 2 [.int (nI 0), .ref (k0 D), .int (nI 0)])) (ba : b a = none) (hx : Ext b h) : Rl D b h a 0 ea rc wn ot un nu la :=
  ⟨ba, hx, ha, fun z => absurd rfl z, fun i hi => absurd hi (by omega), fun i j hi => absurd hi (by omega)⟩
theorem Rl.keep (H : Rl D b h a n ea rc wn ot un nu la) (hk : Kp kBody h h') (hx : Ext b h') : Rl D b h' a n ea rc wn ot un nu la := by
  obtain ⟨h1, h2, h3, h4, h5, h6⟩ := H
  exact ⟨h1, hx, hk _ _ h3 rfl, fun z => ⟨hk _ _ (h4 z).1 rfl, (h4 z).2⟩, fun i hi => ⟨hk _ _ (h5 i hi).1 rfl, (h5 i hi).2⟩, h6⟩
theorem Rl.new (H : Rl D b h a n ea rc wn ot un nu la) (hx : Ext h h') : Rl D b h' a n ea rc wn ot un nu la := H.keep (Kp.ext hx) (H.ext.trans hx)
theorem up_lt {n v : Nat} {rc : Nat → Nat} : va_up (fun i => if i < n then some (rc i) else none) n (some v) = fun i => if i < n + 1 then some (upN rc n v i) else none := by
  funext i
  by_cases hi : i = n
  · subst hi
    rw [va_up_s, if_pos (by omega), upN_s]
  · rw [va_up_n hi]
    by_cases h2 : i < n
    · rw [if_pos h2, if_pos (by omega), upN_n hi]
    · rw [if_neg h2, if_neg (by omega)]
theorem Rl.add (H : Rl D b h a n ea rc wn ot un nu la) {e2 : Nat} (hv : h v = some (eo 4 [va_rf (wn n), va_rf (ot n), .long (un n), .int (nu n), .int (la n)])) (bv : b v = none) (hne : ∀ i, i < n → rc i ≠ v)
    (h1 : h' a = some (eo 2 [.int (nI (n + 1)), .ref e2, .int (nI (n + 1))])) (h2 : h' e2 = some (eO 10 (fun i => if i < n + 1 then some (upN rc n v i) else none))) (be : b e2 = none) (hx : Ext b h') (hk : Kp kNoL h h') : Rl D b h' a (n + 1) e2 (upN rc n v) wn ot un nu la := by
  refine ⟨H.1, hx, by rw [if_neg (by omega)]; exact h1, fun _ => ⟨h2, be⟩, fun i hi => ?_, fun i j hi hj e => ?_⟩
  · by_cases hin : i = n
    · subst hin
      rw [upN_s]
      exact ⟨hk _ _ hv rfl, bv⟩
    · rw [upN_n hin]
      exact ⟨hk _ _ (H.cr (by omega)) rfl, (H.2.2.2.2.1 i (by omega)).2⟩
  · by_cases hin : i = n
    · by_cases hjn : j = n
      · omega
      · rw [hin, upN_s, upN_n hjn] at e
        exact absurd e.symm (hne j (by omega))
    · by_cases hjn : j = n
      · rw [hjn, upN_s, upN_n hin] at e
        exact absurd e (hne i (by omega))
      · rw [upN_n hin, upN_n hjn] at e
        exact H.2.2.2.2.2 i j (by omega) (by omega) e
theorem c_LAaddR (l : Launch) (D : va_G) (h : PH) (H : Rl D b h a n ea rc wn ot un nu la) (hn : n < 10) (hv : h v = some (eo 4 [va_rf (wn n), va_rf (ot n), .long (un n), .int (nu n), .int (la n)])) (bv : b v = none) (hne : ∀ i, i < n → rc i ≠ v) :
    Ct l D yJ2_add cJ2_add 2 (some .boolean) (rmC 4 89 1 10) [.ref a, .ref v] h (fun r h' => r = some (.int (nI 1)) ∧ (∃ e2, Rl D b h' a (n + 1) e2 (upN rc n v) wn ot un nu la) ∧ Kp kNoL h h') := by
  obtain ⟨ba, hx, ha, he, hr, hj⟩ := id H
  by_cases hz : n = 0
  · subst hz
    rw [if_pos rfl] at ha
    refine (c_LAadd0 l D h ha hv).mono ?_
    rintro r h' ⟨q, fq, rfl, rfl⟩
    have hqa : q ≠ a := Ne.symm (ne_f ha fq)
    have hk : Kp kNoL h (pu (pu h q (eO 10 (va_up (fun _ => none) 0 (some v)))) a (eo 2 [.int (nI 0 + nI 1), .ref q, .int (nI (0 + 1))])) := (Kp.ext (Ext.new fq)).trans (Kp.put (pu_o (ne_f ha fq) ha) rfl)
    refine ⟨rfl, ⟨q, H.add hv bv hne (pu_s _ _ _) (pu_o hqa ?_) (hx.no fq) ((hx.trans (Ext.new fq)).put ba) hk⟩, hk⟩
    rw [pu_s, ← up_lt]
    congr
  · rw [if_neg hz] at ha
    obtain ⟨h1, h2⟩ := he hz
    refine (c_LAaddS l D h ha hv h1 hn).mono ?_
    rintro r h' ⟨rfl, rfl⟩
    have hea : ea ≠ a := ne_k h1 ha rfl
    have hk : Kp kNoL h (pu (pu h ea (eO 10 (va_up (fun i => if i < n then some (rc i) else none) n (some v)))) a (eo 2 [.int (nI n + nI 1), .ref ea, .int (nI (n + 1))])) := (Kp.put h1 rfl).trans (Kp.put (pu_o (Ne.symm hea) ha) rfl)
    refine ⟨rfl, ⟨ea, H.add hv bv hne ?_ (pu_o hea ?_) h2 ((hx.put h2).put ba) hk⟩, hk⟩
    · rw [pu_s, nI_add n 1]
    · rw [pu_s, up_lt]
end RL
/-- the runner of a track for a runner of another one -/
theorem c_mineQ (l : Launch) (D : va_G) (h : PH) {t ln rl ld : Nat} {tm tu : Int32} {ru : Nat → Option Nat} (ht : h t = some (eo 1 [.ref ln, .ref rl, .ref ld, .int tm, .int tu])) (hln : h ln = some (eR 8 ru)) {r : Option Nat} {x : Int32}
    (hr : (r = none ∧ x = -1) ∨ ∃ (j q : Nat) (pl sp lx : Int32), j < 8 ∧ r = some q ∧ x = nI j ∧ h q = some (eo 10 [.int (nI j), .int pl, .int sp, .int lx])) :
    Ct l D yX1_mine cX1_mine 2 (some (.object "LeadRaces$Runner")) (rmC 0 0 0 0) [.ref t, va_rf r] h (PS h (some (va_rf (rrn ru x)))) := by
  rcases hr with ⟨rfl, rfl⟩ | ⟨j, q, pl, sp, lx, hj, rfl, rfl, hq⟩
  · rw [rrn_m1]
    exact c_mineN l D h ht hln
  · rw [rrn_nI hj]
    exact c_mineR l D h ht hln hq hj
theorem Tp.mine {b h : PH} {t : Nat} {T rc : Nat → Nat} {ru wn ot : Nat → Option Nat} {un : Nat → Int64} {a : Nat → Int32} (hc : Tc b h t T rc ru wn ot un a) {i : Nat} {r : Option Nat} {x : Int32} (h1 : r = rrn ru x) (h2 : Lv ru i x) :
    (r = none ∧ x = -1) ∨ ∃ (j q : Nat) (pl sp lx : Int32), j < 8 ∧ r = some q ∧ x = nI j ∧ h q = some (eo 10 [.int (nI j), .int pl, .int sp, .int lx]) := by
  rcases h2 with rfl | ⟨j, hj, rfl, hn, -⟩
  · rw [rrn_m1] at h1
    exact Or.inl ⟨h1, rfl⟩
  · rw [rrn_nI hj] at h1
    cases hq : ru j with
    | none => exact absurd hq hn
    | some q => exact Or.inr ⟨j, q, _, _, _, hj, h1.trans hq, rfl, hc.cu hj hq⟩
/-- four addresses -/
def T4 (x y z w : Nat) : Nat → Nat := fun i => if i = 0 then x else if i = 1 then y else if i = 2 then z else w
theorem Tc.of {D : va_G} {b h : PH} {t l1 a1 ea d : Nat} {rc : Nat → Nat} {ru wn ot : Nat → Option Nat} {un : Nat → Int64} {a : Nat → Int32} (ht : h t = some (eo 1 [.ref l1, .ref a1, .ref d, .int (a 0), .int (a 85)])) (hl : h l1 = some (eR 8 ru)) (R : Rl D b h a1 7 ea rc wn ot un (fun i => a (54 + i)) (fun i => a (61 + i)))
    (hu : ∀ i q, i < 8 → ru i = some q → h q = some (eo 10 [.int (nI i), .int (a (9 + i)), .int (a (17 + i)), .int (a (25 + i))]) ∧ b q = none) (hw : ∀ i q, i < 7 → wn i = some q ∨ ot i = some q → ∃ fs, h q = some (eo 10 fs)) (bt : b t = none) (bl : b l1 = none) : Tc b h t (T4 l1 a1 ea d) rc ru wn ot un a := by
  obtain ⟨ba, hx, ha, he, hr, hj⟩ := R
  obtain ⟨h1, h2⟩ := he (by decide)
  exact ⟨ht, hl, ha, h1, fun i hi => (hr i hi).1, fun i q hi hq => (hu i q hi hq).1, hj, hw, hx, bt, bl, ba, h2, fun i hi => (hr i hi).2, fun i q hi hq => (hu i q hi hq).2⟩
