/-! the leads of a track: one is put down -/
set_option maxRecDepth 100000
def Al : Nat → Prop := fun _ => True
theorem Tp.mono {S S' : Nat → Prop} {ru wn ot : Nat → Option Nat} {un : Nat → Int64} {a : Nat → Int32} (H : Tp S ru wn ot un a) (hs : ∀ i, i < 7 → S' i → S i) : Tp S' ru wn ot un a := ⟨H.1, fun i hi z => H.2.1 i hi (hs i hi z), H.2.2⟩
theorem TK.mono {b h : PH} {t : Nat} {T rc : Nat → Nat} {ru : Nat → Option Nat} {S S' : Nat → Prop} {a : Nat → Int32} (H : TK b h t T rc ru S a) (hs : ∀ i, i < 7 → S' i → S i) : TK b h t T rc ru S' a := by
  obtain ⟨wn, ot, un, h1, h2, h3⟩ := H
  exact ⟨wn, ot, un, h1, h2, h3.mono hs⟩
theorem TK.new {b h h' : PH} {t : Nat} {T rc : Nat → Nat} {ru : Nat → Option Nat} {S : Nat → Prop} {a : Nat → Int32} (H : TK b h t T rc ru S a) (hx : Ext h h') : TK b h' t T rc ru S a := by
  obtain ⟨wn, ot, un, h1, h2, h3⟩ := H
  exact ⟨wn, ot, un, h1.new hx, h2.keep (Kp.ext hx), h3⟩
theorem TK.base {b b' h : PH} {t : Nat} {T rc : Nat → Nat} {ru : Nat → Option Nat} {S : Nat → Prop} {a : Nat → Int32} (H : TK b h t T rc ru S a) (hx : Ext b' b) : TK b' h t T rc ru S a := by
  obtain ⟨wn, ot, un, h1, h2, h3⟩ := H
  exact ⟨wn, ot, un, h1.base hx, h2.base hx, h3⟩
theorem TK.more {b h : PH} {t o : Nat} {e : va_E} {T rc : Nat → Nat} {ru : Nat → Option Nat} {S : Nat → Prop} {a : Nat → Int32} (H : TK b h t T rc ru S a) (ho : h o = some e) (hk : kBody (kd e) = false) (hl : kList (kd e) = false) : TK (pu b o e) h t T rc ru S a := by
  obtain ⟨wn, ot, un, h1, h2, h3⟩ := H
  exact ⟨wn, ot, un, h1.more ho hk, h2.more ho hl, h3⟩
theorem TK.ext {b h : PH} {t : Nat} {T rc : Nat → Nat} {ru : Nat → Option Nat} {S : Nat → Prop} {a : Nat → Int32} (H : TK b h t T rc ru S a) : Ext b h := by
  obtain ⟨wn, ot, un, h1, h2, h3⟩ := H
  exact h1.ext
/-- the row may change where nothing tells of it -/
theorem Tp.row {S : Nat → Prop} {ru wn ot : Nat → Option Nat} {un : Nat → Int64} {a a' : Nat → Int32} (H : Tp S ru wn ot un a) (hr : ∀ k, k < 25 ∨ (33 ≤ k ∧ k < 54) → a' k = a k) : Tp S ru wn ot un a' := by
  refine ⟨fun i hi => ?_, fun i hi hs => ?_, fun i hi => ?_, fun i hi => ?_, H.2.2.2.2.row (hr _ (by omega)) (fun k h1 h2 => hr _ (by omega))⟩
  · rw [hr _ (by omega)]
    exact H.1 i hi
  · rw [hr (33 + i) (by omega), hr (40 + i) (by omega)]
    exact H.2.1 i hi hs
  · rw [hr _ (by omega)]
    exact H.2.2.1 i hi
  · rw [hr _ (by omega)]
    exact H.2.2.2.1 i hi
theorem TK.leader {b h : PH} {t : Nat} {T rc : Nat → Nat} {ru wn ot : Nat → Option Nat} {un : Nat → Int64} {S : Nat → Prop} {a : Nat → Int32} (hc : Tc b h t T rc ru wn ot un a) (hp : Tp S ru wn ot un a) (h6 : S 6) : (wn 6 = none ∧ a 39 = -1) ∨ ∃ j q, j < 8 ∧ a 39 = nI j ∧ ru j = some q ∧ wn 6 = some q ∧ h q = some (eo 10 [.int (a 39), .int (a (9 + j)), .int (a (17 + j)), .int (a (25 + j))]) := by
  obtain ⟨w1, -, w3, -⟩ := hp.2.1 6 (by omega) h6
  have w1 : wn 6 = rrn ru (a 39) := w1
  have w3 : Lv ru 6 (a 39) := w3
  rcases w3 with e | ⟨j, hj, e, hn, -⟩
  · refine Or.inl ⟨?_, e⟩
    rw [w1, e]
    exact rrn_m1
  · cases hq : ru j with
    | none => exact absurd hq hn
    | some q =>
      refine Or.inr ⟨j, q, hj, e, hq, ?_, ?_⟩
      · rw [w1, e, rrn_nI hj, hq]
      · rw [e]
        exact hc.cu hj hq
section LE
variable {b h h1 h2 h3 : PH} {t d q1 q2 n : Nat} {T rc : Nat → Nat} {ru wn ot : Nat → Option Nat} {un : Nat → Int64} {S : Nat → Prop} {a : Nat → Int32} {md md2 md3 : Int32} {nd it : Nat → Nat}
/-- after addFirst of the lead q1 -/
theorem TK.lead (hc : Tc b h t T rc ru wn ot un a) (hp : Tp S ru wn ot un a) (hl : LLf h (T 3) md n nd it) (hn : n ≤ 8) (hit : ∀ i, i < n → h (it i) = some (eo 11 [.int (a (68 + (n - 1 - i))), .int (a (76 + (n - 1 - i)))])) (bd : b (T 3) = none) (bn : ∀ i, i < n → b (nd i) = none)
    (hq1 : h q1 = none) (e1 : h1 = pu h q1 (eo 11 [.int (a 39), .int (a 0)])) (hq2 : h1 q2 = none) (hl2 : LLf h2 (T 3) md2 (n + 1) (cnN nd q2) (cnN it q1)) (hf : Fr (Lfp (T 3) n nd) h1 h2) :
    Tc b h2 t T rc ru wn ot un a ∧ (∀ i, i < n + 1 → b (cnN nd q2 i) = none) ∧ Kp (fun k => k == 11) h h2 ∧ h2 q1 = some (eo 11 [.int (a 39), .int (a 0)]) := by
  have x1 : Ext h h1 := by rw [e1]; exact Ext.new hq1
  have hl1 : LLf h1 (T 3) md n nd it := hl.kept (Kp.ext x1)
  have c1 := hc.new x1
  have c2 := c1.keep (hf.kept hl1 kBody rfl rfl) (hf.ext c1.ext bd bn)
  have k11 : Kp (fun k => k == 11) h1 h2 := hf.kept hl1 _ rfl rfl
  refine ⟨c2, fun i hi => ?_, (Kp.ext x1).trans k11, k11 _ _ (by rw [e1]; exact pu_s _ _ _) rfl⟩
  cases i with
  | zero => rw [cnN_0]; exact c1.ext.no hq2
  | succ i => rw [cnN_s]; exact bn i (by omega)
theorem TK.lead7 (hc : Tc b h t T rc ru wn ot un a) (hp : Tp S ru wn ot un a) (hl : LLf h (T 3) md n nd it) (hn : n < 8) (hit : ∀ i, i < n → h (it i) = some (eo 11 [.int (a (68 + (n - 1 - i))), .int (a (76 + (n - 1 - i)))])) (bd : b (T 3) = none) (bn : ∀ i, i < n → b (nd i) = none)
    (hq1 : h q1 = none) (e1 : h1 = pu h q1 (eo 11 [.int (a 39), .int (a 0)])) (hq2 : h1 q2 = none) (hl2 : LLf h2 (T 3) md2 (n + 1) (cnN nd q2) (cnN it q1)) (hf : Fr (Lfp (T 3) n nd) h1 h2) :
    TK b (pu h2 t (eo 1 [.ref (T 0), .ref (T 1), .ref (T 3), .int (a 0), .int (a 85 + nI 1)])) t T rc ru S (m_append a n) := by
  obtain ⟨c2, bn2, k11, hq⟩ := TK.lead hc hp hl (by omega) hit bd bn hq1 e1 hq2 hl2 hf
  have T1 := c2.putT (a' := m_append a n) (fun k h1 h2 => m_append_out (by omega) (by omega)) (fun k h1 h2 => m_append_out (by omega) (by omega))
  rw [(m_append_84 (a := a) (n := n) (by omega)).2, m_append_out (by omega) (by omega)] at T1
  have kt : ∀ {e : va_E}, Kp kList h2 (pu h2 t e) := Kp.put c2.ct rfl
  refine ⟨wn, ot, un, T1, ⟨md2, n + 1, cnN nd q2, cnN it q1, hl2.kept kt, by omega, ?_, fun i hi => ?_, bd, bn2⟩, hp.row (fun k hk => m_append_out (by omega) (by omega))⟩
  · rw [(m_append_84 (a := a) (n := n) (by omega)).1, if_neg (by omega)]
  · cases i with
    | zero =>
      rw [cnN_0, show n + 1 - 1 - 0 = n by omega, (m_append_lt (a := a) hn hn).1, (m_append_lt (a := a) hn hn).2, if_pos rfl, if_pos rfl]
      exact kt _ _ hq rfl
    | succ i =>
      rw [cnN_s, show n + 1 - 1 - (i + 1) = n - 1 - i by omega, (m_append_lt (a := a) (k := n - 1 - i) hn (by omega)).1, (m_append_lt (a := a) (k := n - 1 - i) hn (by omega)).2, if_neg (by omega), if_neg (by omega)]
      exact kt _ _ (k11 _ _ (hit i (by omega)) rfl) rfl
/-- the ninth goes -/
theorem TK.lead8 (hc : Tc b h t T rc ru wn ot un a) (hp : Tp S ru wn ot un a) (hl : LLf h (T 3) md 8 nd it) (hit : ∀ i, i < 8 → h (it i) = some (eo 11 [.int (a (68 + (8 - 1 - i))), .int (a (76 + (8 - 1 - i)))])) (bd : b (T 3) = none) (bn : ∀ i, i < 8 → b (nd i) = none)
    (hq1 : h q1 = none) (e1 : h1 = pu h q1 (eo 11 [.int (a 39), .int (a 0)])) (hq2 : h1 q2 = none) (hl2 : LLf h2 (T 3) md2 (8 + 1) (cnN nd q2) (cnN it q1)) (hf : Fr (Lfp (T 3) 8 nd) h1 h2)
    (hl3 : LLf h3 (T 3) md3 (7 + 1) (cnN nd q2) (cnN it q1)) (hf3 : Fr (Lfp (T 3) (7 + 2) (cnN nd q2)) (pu h2 t (eo 1 [.ref (T 0), .ref (T 1), .ref (T 3), .int (a 0), .int (a 85 + nI 1)])) h3) :
    TK b h3 t T rc ru S (m_append a 8) := by
  obtain ⟨c2, bn2, k11, hq⟩ := TK.lead hc hp hl (by omega) hit bd bn hq1 e1 hq2 hl2 hf
  have T1 := c2.putT (a' := m_append a 8) (fun k h1 h2 => m_append_out (by omega) (by omega)) (fun k h1 h2 => m_append_out (by omega) (by omega))
  rw [(m_append_84 (a := a) (n := 8) (by omega)).2, m_append_out (by omega) (by omega)] at T1
  have kt : ∀ {e : va_E}, Kp kList h2 (pu h2 t e) := Kp.put c2.ct rfl
  have hl2' := hl2.kept (kt (e := eo 1 [.ref (T 0), .ref (T 1), .ref (T 3), .int (a 0), .int (a 85 + nI 1)]))
  have T2 := T1.keep (hf3.kept hl2' kBody rfl rfl) (hf3.ext T1.ext bd (fun i hi => bn2 i (by omega)))
  have k3 : Kp (fun k => k == 11) (pu h2 t (eo 1 [.ref (T 0), .ref (T 1), .ref (T 3), .int (a 0), .int (a 85 + nI 1)])) h3 := hf3.kept hl2' _ rfl rfl
  refine ⟨wn, ot, un, T2, ⟨md3, 7 + 1, cnN nd q2, cnN it q1, hl3, by omega, ?_, fun i hi => ?_, bd, fun i hi => bn2 i (by omega)⟩, hp.row (fun k hk => m_append_out (by omega) (by omega))⟩
  · rw [(m_append_84 (a := a) (n := 8) (by omega)).1, if_pos rfl]
  · cases i with
    | zero =>
      rw [cnN_0, show 7 + 1 - 1 - 0 = 7 by omega, (m_append_8 (a := a) (k := 7) (by omega)).1, (m_append_8 (a := a) (k := 7) (by omega)).2, if_pos rfl, if_pos rfl]
      exact k3 _ _ (kt _ _ hq rfl) rfl
    | succ i =>
      rw [cnN_s, show 7 + 1 - 1 - (i + 1) = 6 - i by omega, (m_append_8 (a := a) (k := 6 - i) (by omega)).1, (m_append_8 (a := a) (k := 6 - i) (by omega)).2, if_neg (by omega), if_neg (by omega), show 68 + (6 - i) + 1 = 68 + (8 - 1 - i) by omega, show 76 + (6 - i) + 1 = 76 + (8 - 1 - i) by omega]
      exact k3 _ _ (kt _ _ (k11 _ _ (hit i (by omega)) rfl) rfl) rfl
end LE
