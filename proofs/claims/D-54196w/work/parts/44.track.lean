/-! a track as a relation: its cells (Tc), its leads (Tl), what they say of the reference's row (Tp) -/
set_option maxRecDepth 100000
def fT (rc : Nat → Nat) : Nat → Option Nat := fun i => if i < 7 then some (rc i) else none
/-- the cells of the track t: T 0 lanes, T 1 races, T 2 their array, T 3 leads; rc races; ru runners; wn ot un of races: winner, other, until; b: what was there before -/
def Tc (b h : PH) (t : Nat) (T rc : Nat → Nat) (ru wn ot : Nat → Option Nat) (un : Nat → Int64) (a : Nat → Int32) : Prop :=
  h t = some (eo 1 [.ref (T 0), .ref (T 1), .ref (T 3), .int (a 0), .int (a 85)]) ∧
  h (T 0) = some (eR 8 ru) ∧
  h (T 1) = some (eo 2 [.int (nI 7), .ref (T 2), .int (nI 7)]) ∧
  h (T 2) = some (eO 10 (fT rc)) ∧
  (∀ i, i < 7 → h (rc i) = some (eo 4 [va_rf (wn i), va_rf (ot i), .long (un i), .int (a (54 + i)), .int (a (61 + i))])) ∧
  (∀ i q, i < 8 → ru i = some q → h q = some (eo 10 [.int (nI i), .int (a (9 + i)), .int (a (17 + i)), .int (a (25 + i))])) ∧
  (∀ i j, i < 7 → j < 7 → rc i = rc j → i = j) ∧
  (∀ i q, i < 7 → wn i = some q ∨ ot i = some q → ∃ fs, h q = some (eo 10 fs)) ∧
  Ext b h ∧ b t = none ∧ b (T 0) = none ∧ b (T 1) = none ∧ b (T 2) = none ∧ (∀ i, i < 7 → b (rc i) = none) ∧ (∀ i q, i < 8 → ru i = some q → b q = none)
section TC
variable {b h h' : PH} {t : Nat} {T rc : Nat → Nat} {ru wn ot : Nat → Option Nat} {un : Nat → Int64} {a a' : Nat → Int32}
theorem Tc.ct (H : Tc b h t T rc ru wn ot un a) : h t = some (eo 1 [.ref (T 0), .ref (T 1), .ref (T 3), .int (a 0), .int (a 85)]) := H.1
theorem Tc.ln (H : Tc b h t T rc ru wn ot un a) : h (T 0) = some (eR 8 ru) := H.2.1
theorem Tc.rl (H : Tc b h t T rc ru wn ot un a) : h (T 1) = some (eo 2 [.int (nI 7), .ref (T 2), .int (nI 7)]) := H.2.2.1
theorem Tc.ea (H : Tc b h t T rc ru wn ot un a) : h (T 2) = some (eO 10 (fT rc)) := H.2.2.2.1
theorem Tc.cr (H : Tc b h t T rc ru wn ot un a) {i : Nat} (hi : i < 7) : h (rc i) = some (eo 4 [va_rf (wn i), va_rf (ot i), .long (un i), .int (a (54 + i)), .int (a (61 + i))]) := H.2.2.2.2.1 i hi
theorem Tc.cu (H : Tc b h t T rc ru wn ot un a) {i q : Nat} (hi : i < 8) (hq : ru i = some q) : h q = some (eo 10 [.int (nI i), .int (a (9 + i)), .int (a (17 + i)), .int (a (25 + i))]) := H.2.2.2.2.2.1 i q hi hq
theorem Tc.rj (H : Tc b h t T rc ru wn ot un a) {i j : Nat} (hi : i < 7) (hj : j < 7) (e : rc i = rc j) : i = j := H.2.2.2.2.2.2.1 i j hi hj e
theorem Tc.wq (H : Tc b h t T rc ru wn ot un a) {i q : Nat} (hi : i < 7) (hq : wn i = some q ∨ ot i = some q) : ∃ fs, h q = some (eo 10 fs) := H.2.2.2.2.2.2.2.1 i q hi hq
theorem Tc.ext (H : Tc b h t T rc ru wn ot un a) : Ext b h := H.2.2.2.2.2.2.2.2.1
theorem Tc.bt (H : Tc b h t T rc ru wn ot un a) : b t = none := H.2.2.2.2.2.2.2.2.2.1
theorem Tc.bs (H : Tc b h t T rc ru wn ot un a) : b (T 0) = none ∧ b (T 1) = none ∧ b (T 2) = none ∧ (∀ i, i < 7 → b (rc i) = none) ∧ (∀ i q, i < 8 → ru i = some q → b q = none) := H.2.2.2.2.2.2.2.2.2.2
/-- other cells may change -/
theorem Tc.keep (H : Tc b h t T rc ru wn ot un a) (hk : Kp kBody h h') (hx : Ext b h') : Tc b h' t T rc ru wn ot un a :=
  ⟨hk _ _ H.ct rfl, hk _ _ H.ln rfl, hk _ _ H.rl rfl, hk _ _ H.ea rfl, fun i hi => hk _ _ (H.cr hi) rfl, fun i q hi hq => hk _ _ (H.cu hi hq) rfl, fun i j hi hj e => H.rj hi hj e, fun i q hi hq => by
    obtain ⟨fs, hf⟩ := H.wq hi hq
    exact ⟨fs, hk _ _ hf rfl⟩, hx, H.bt, H.bs⟩
theorem Tc.new (H : Tc b h t T rc ru wn ot un a) (hx : Ext h h') : Tc b h' t T rc ru wn ot un a := H.keep (Kp.ext hx) (H.ext.trans hx)
/-- of a smaller base -/
theorem Tc.base {b' : PH} (H : Tc b h t T rc ru wn ot un a) (hb : Ext b' b) : Tc b' h t T rc ru wn ot un a := by
  obtain ⟨g1, g2, g3, g4, g5⟩ := H.bs
  exact ⟨H.ct, H.ln, H.rl, H.ea, fun i hi => H.cr hi, fun i q hi hq => H.cu hi hq, fun i j hi hj e => H.rj hi hj e, fun i q hi hq => H.wq hi hq, hb.trans H.ext, hb.no H.bt, hb.no g1, hb.no g2, hb.no g3, fun i hi => hb.no (g4 i hi), fun i q hi hq => hb.no (g5 i q hi hq)⟩
/-- of a base with one cell more -/
theorem Tc.more {o : Nat} {e : va_E} (H : Tc b h t T rc ru wn ot un a) (ho : h o = some e) (hk : kBody (kd e) = false) : Tc (pu b o e) h t T rc ru wn ot un a := by
  obtain ⟨g1, g2, g3, g4, g5⟩ := H.bs
  have key : ∀ q e', h q = some e' → kBody (kd e') = true → b q = none → pu b o e q = none := by
    intro q e' hq hp hb
    refine pu_on ?_ hb
    rintro rfl
    rw [hq] at ho
    rw [Option.some.inj ho, hk] at hp
    cases hp
  refine ⟨H.ct, H.ln, H.rl, H.ea, fun i hi => H.cr hi, fun i q hi hq => H.cu hi hq, fun i j hi hj e => H.rj hi hj e, fun i q hi hq => H.wq hi hq, ?_, key _ _ H.ct rfl H.bt, key _ _ H.ln rfl g1, key _ _ H.rl rfl g2, key _ _ H.ea rfl g3, fun i hi => key _ _ (H.cr hi) rfl (g4 i hi), fun i q hi hq => key _ _ (H.cu hi hq) rfl (g5 i q hi hq)⟩
  intro q e' hq
  by_cases hqo : q = o
  · subst hqo
    rw [pu_s] at hq
    rw [ho, hq]
  · rw [pu_n hqo] at hq
    exact H.ext q e' hq
theorem Tc.ruj (H : Tc b h t T rc ru wn ot un a) {i j q : Nat} (hi : i < 8) (hj : j < 8) (h1 : ru i = some q) (h2 : ru j = some q) : i = j := by
  have e1 := H.cu hi h1
  rw [H.cu hj h2] at e1
  have e2 := (Sum.inr.inj (Option.some.inj e1))
  have e3 := congrArg (fun z => z.2.head?) e2
  have e4 : Value.int (nI j) = Value.int (nI i) := Option.some.inj e3
  have e5 : nI j = nI i := Value.int.inj e4
  exact ((nI_eq (by omega) (by omega)).mp e5).symm
/-- the row may change where the cells don't tell -/
theorem Tc.row (H : Tc b h t T rc ru wn ot un a) (h0 : a' 0 = a 0) (h85 : a' 85 = a 85) (hm : ∀ k, 9 ≤ k → k < 33 → a' k = a k) (hr : ∀ k, 54 ≤ k → k < 68 → a' k = a k) : Tc b h t T rc ru wn ot un a' := by
  refine ⟨by rw [h0, h85]; exact H.ct, H.ln, H.rl, H.ea, fun i hi => ?_, fun i q hi hq => ?_, fun i j hi hj e => H.rj hi hj e, fun i q hi hq => H.wq hi hq, H.ext, H.bt, H.bs⟩
  · rw [hr (54 + i) (by omega) (by omega), hr (61 + i) (by omega) (by omega)]
    exact H.cr hi
  · rw [hm (9 + i) (by omega) (by omega), hm (17 + i) (by omega) (by omega), hm (25 + i) (by omega) (by omega)]
    exact H.cu hi hq
/-- a race is written -/
theorem Tc.putR (H : Tc b h t T rc ru wn ot un a) {r : Nat} (hr : r < 7) {w o : Option Nat} {u : Int64} (hw : ∀ q, w = some q ∨ o = some q → ∃ fs, h q = some (eo 10 fs)) (hA : ∀ k, k < 33 ∨ 68 ≤ k → a' k = a k) (hN : ∀ i, i < 7 → i ≠ r → a' (54 + i) = a (54 + i) ∧ a' (61 + i) = a (61 + i)) :
    Tc b (pu h (rc r) (eo 4 [va_rf w, va_rf o, .long u, .int (a' (54 + r)), .int (a' (61 + r))])) t T rc ru (va_up wn r w) (va_up ot r o) (vp_updL un r u) a' := by
  have hc := H.cr hr
  have kk : Kp (fun n => n == 1 || n == 104 || n == 2 || n == 105 || n == 10) h (pu h (rc r) (eo 4 [va_rf w, va_rf o, .long u, .int (a' (54 + r)), .int (a' (61 + r))])) := Kp.put hc rfl
  obtain ⟨g1, g2, g3, g4, g5⟩ := H.bs
  refine ⟨?_, kk _ _ H.ln rfl, kk _ _ H.rl rfl, kk _ _ H.ea rfl, fun i hi => ?_, fun i q hi hq => ?_, fun i j hi hj e => H.rj hi hj e, fun i q hi hq => ?_, H.ext.put (g4 r hr), H.bt, H.bs⟩
  · rw [hA 0 (by omega), hA 85 (by omega)]
    exact kk _ _ H.ct rfl
  · by_cases hir : i = r
    · subst hir
      rw [pu_s, va_up_s, va_up_s, pk_uLs]
    · rw [pu_n (fun z => hir (H.rj hi hr z)), va_up_n hir, va_up_n hir, pk_uLn hir, (hN i hi hir).1, (hN i hi hir).2]
      exact H.cr hi
  · rw [hA (9 + i) (by omega), hA (17 + i) (by omega), hA (25 + i) (by omega)]
    exact kk _ _ (H.cu hi hq) rfl
  · have : ∃ fs, h q = some (eo 10 fs) := by
      by_cases hir : i = r
      · subst hir
        rw [va_up_s, va_up_s] at hq
        exact hw q hq
      · rw [va_up_n hir, va_up_n hir] at hq
        exact H.wq hi hq
    obtain ⟨fs, hf⟩ := this
    exact ⟨fs, kk _ _ hf rfl⟩
/-- the track's own numbers are written -/
theorem Tc.putT (H : Tc b h t T rc ru wn ot un a) (hm : ∀ k, 9 ≤ k → k < 33 → a' k = a k) (hr : ∀ k, 54 ≤ k → k < 68 → a' k = a k) : Tc b (pu h t (eo 1 [.ref (T 0), .ref (T 1), .ref (T 3), .int (a' 0), .int (a' 85)])) t T rc ru wn ot un a' := by
  have kk : Kp (fun n => n == 104 || n == 2 || n == 105 || n == 4 || n == 10) h (pu h t (eo 1 [.ref (T 0), .ref (T 1), .ref (T 3), .int (a' 0), .int (a' 85)])) := Kp.put H.ct rfl
  refine ⟨pu_s _ _ _, kk _ _ H.ln rfl, kk _ _ H.rl rfl, kk _ _ H.ea rfl, fun i hi => ?_, fun i q hi hq => ?_, fun i j hi hj e => H.rj hi hj e, fun i q hi hq => ?_, H.ext.put H.bt, H.bt, H.bs⟩
  · rw [hr (54 + i) (by omega) (by omega), hr (61 + i) (by omega) (by omega)]
    exact kk _ _ (H.cr hi) rfl
  · rw [hm (9 + i) (by omega) (by omega), hm (17 + i) (by omega) (by omega), hm (25 + i) (by omega) (by omega)]
    exact kk _ _ (H.cu hi hq) rfl
  · obtain ⟨fs, hf⟩ := H.wq hi hq
    exact ⟨fs, kk _ _ hf rfl⟩
/-- a runner is written -/
theorem Tc.putU (H : Tc b h t T rc ru wn ot un a) {j p : Nat} (hj : j < 8) (hp : ru j = some p) (h0 : a' 0 = a 0) (h85 : a' 85 = a 85) (hm : ∀ k, 9 ≤ k → k < 33 → k ≠ 9 + j → k ≠ 17 + j → k ≠ 25 + j → a' k = a k) (hr : ∀ k, 54 ≤ k → k < 68 → a' k = a k) : Tc b (pu h p (eo 10 [.int (nI j), .int (a' (9 + j)), .int (a' (17 + j)), .int (a' (25 + j))])) t T rc ru wn ot un a' := by
  have hc := H.cu hj hp
  have kk : Kp (fun n => n == 1 || n == 104 || n == 2 || n == 105 || n == 4) h (pu h p (eo 10 [.int (nI j), .int (a' (9 + j)), .int (a' (17 + j)), .int (a' (25 + j))])) := Kp.put hc rfl
  obtain ⟨g1, g2, g3, g4, g5⟩ := H.bs
  refine ⟨by rw [h0, h85]; exact kk _ _ H.ct rfl, kk _ _ H.ln rfl, kk _ _ H.rl rfl, kk _ _ H.ea rfl, fun i hi => ?_, fun i q hi hq => ?_, fun i j hi hj e => H.rj hi hj e, fun i q hi hq => ?_, H.ext.put (g5 j p hj hp), H.bt, H.bs⟩
  · rw [hr (54 + i) (by omega) (by omega), hr (61 + i) (by omega) (by omega)]
    exact kk _ _ (H.cr hi) rfl
  · by_cases hij : i = j
    · subst hij
      rw [hp] at hq
      cases hq
      exact pu_s _ _ _
    · rw [hm (9 + i) (by omega) (by omega) (by omega) (by omega) (by omega), hm (17 + i) (by omega) (by omega) (by omega) (by omega) (by omega), hm (25 + i) (by omega) (by omega) (by omega) (by omega) (by omega)]
      exact pu_o (fun z => hij (H.ruj hi hj (z ▸ hq) hp)) (H.cu hi hq)
  · obtain ⟨fs, hf⟩ := H.wq hi hq
    by_cases hqp : q = p
    · subst hqp
      exact ⟨_, pu_s _ _ _⟩
    · exact ⟨fs, pu_o hqp hf⟩
/-- a lane is written -/
theorem Tc.putL (H : Tc b h t T rc ru wn ot un a) {j : Nat} {x : Option Nat} (hj : j < 8) (hx : ∀ q, x = some q → h q = some (eo 10 [.int (nI j), .int (a' (9 + j)), .int (a' (17 + j)), .int (a' (25 + j))]) ∧ b q = none) (h0 : a' 0 = a 0) (h85 : a' 85 = a 85) (hm : ∀ k, 9 ≤ k → k < 33 → k ≠ 9 + j → k ≠ 17 + j → k ≠ 25 + j → a' k = a k) (hr : ∀ k, 54 ≤ k → k < 68 → a' k = a k) : Tc b (pu h (T 0) (eR 8 (va_up ru j x))) t T rc (va_up ru j x) wn ot un a' := by
  have kk : Kp (fun n => n == 1 || n == 2 || n == 105 || n == 4 || n == 10) h (pu h (T 0) (eR 8 (va_up ru j x))) := Kp.put H.ln rfl
  obtain ⟨g1, g2, g3, g4, g5⟩ := H.bs
  refine ⟨by rw [h0, h85]; exact kk _ _ H.ct rfl, pu_s _ _ _, kk _ _ H.rl rfl, kk _ _ H.ea rfl, fun i hi => ?_, fun i q hi hq => ?_, fun i j hi hj e => H.rj hi hj e, fun i q hi hq => ?_, H.ext.put g1, H.bt, g1, g2, g3, g4, fun i q hi hq => ?_⟩
  · rw [hr (54 + i) (by omega) (by omega), hr (61 + i) (by omega) (by omega)]
    exact kk _ _ (H.cr hi) rfl
  · by_cases hij : i = j
    · subst hij
      rw [va_up_s] at hq
      exact kk _ _ (hx q hq).1 rfl
    · rw [va_up_n hij] at hq
      rw [hm (9 + i) (by omega) (by omega) (by omega) (by omega) (by omega), hm (17 + i) (by omega) (by omega) (by omega) (by omega) (by omega), hm (25 + i) (by omega) (by omega) (by omega) (by omega) (by omega)]
      exact kk _ _ (H.cu hi hq) rfl
  · obtain ⟨fs, hf⟩ := H.wq hi hq
    exact ⟨fs, kk _ _ hf rfl⟩
  · by_cases hij : i = j
    · subst hij
      rw [va_up_s] at hq
      exact (hx q hq).2
    · rw [va_up_n hij] at hq
      exact g5 i q hi hq
end TC
