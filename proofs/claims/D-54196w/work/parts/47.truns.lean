/-! a race of a track is run: the component against the reference -/
set_option maxRecDepth 100000
theorem m_runsA_at {σ : MS} {r i : Nat} {p : Option Nat × Option Nat} (hr : r < 7) (hi : i < 7) : m_runsA σ r p (40 + i) = (if i = r then on p.2 else σ.1 0 (40 + i)) ∧ m_runsA σ r p (47 + i) = (if i = r then rU σ p else σ.1 0 (47 + i)) ∧ m_runsA σ r p (54 + i) = (if i = r then σ.1 0 (54 + r) + 1 else σ.1 0 (54 + i)) ∧ m_runsA σ r p (61 + i) = (if i = r then σ.1 0 0 else σ.1 0 (61 + i)) := by
  unfold m_runsA
  refine ⟨?_, ?_, ?_, ?_⟩
  · rw [pk_un (by omega), pk_un (by omega), pk_un (by omega)]
    by_cases h : i = r
    · rw [if_pos h, h, pk_us]
    · rw [if_neg h, pk_un (by omega), pk_un (by omega)]
  · rw [pk_un (by omega), pk_un (by omega)]
    by_cases h : i = r
    · rw [if_pos h, h, pk_us]
    · rw [if_neg h, pk_un (by omega), pk_un (by omega), pk_un (by omega)]
  · rw [pk_un (by omega)]
    by_cases h : i = r
    · rw [if_pos h, h, pk_us]
    · rw [if_neg h, pk_un (by omega), pk_un (by omega), pk_un (by omega), pk_un (by omega)]
  · by_cases h : i = r
    · rw [if_pos h, h, pk_us]
    · rw [if_neg h, pk_un (by omega), pk_un (by omega), pk_un (by omega), pk_un (by omega), pk_un (by omega)]
theorem Bd.row {a a' : Nat → Int32} (H : Bd a) (h0 : a' 0 = a 0) (hm : ∀ k, 9 ≤ k → k < 25 → a' k = a k) : Bd a' := by
  obtain ⟨h1, h2⟩ := H
  refine ⟨by rw [h0]; exact h1, fun i hi => ?_⟩
  rw [h0, hm _ (by omega) (by omega), hm _ (by omega) (by omega)]
  exact h2 i hi
theorem Lv.inj {ru : Nat → Option Nat} (hj : ∀ i j q, i < 8 → j < 8 → ru i = some q → ru j = some q → i = j) {r r' : Nat} {x y : Int32} (hx : Lv ru r x) (hy : Lv ru r' y) (e : rrn ru x = rrn ru y) : x = y := by
  rcases hx with rfl | ⟨i, hi, rfl, hni, -⟩
  · rcases hy with rfl | ⟨j, hj', rfl, hnj, -⟩
    · rfl
    · rw [rrn_m1, rrn_nI hj'] at e
      exact absurd e.symm hnj
  · rcases hy with rfl | ⟨j, hj', rfl, hnj, -⟩
    · rw [rrn_m1, rrn_nI hi] at e
      exact absurd e hni
    · rw [rrn_nI hi, rrn_nI hj'] at e
      cases hq : ru i with
      | none => exact absurd hq hni
      | some q => rw [hj i j q hi hj' hq (e ▸ hq)]
theorem c_Truns (l : Launch) (D : va_G) (h : PH) {b : PH} {t : Nat} {T rc : Nat → Nat} {ru : Nat → Option Nat} {S : Nat → Prop} {σ : MS} {r : Nat} (H : TK b h t T rc ru S (σ.1 0)) (hr : r < 7) (hS : 4 ≤ r → S (2 * (r - 4)) ∧ S (2 * (r - 4) + 1)) :
    Ct l D yX1_runs cX1_runs 2 (some .boolean) (rmC 4 86 0 0) [.ref t, .int (nI r)] h (fun v h' => ∃ x, v = some (.int x) ∧ isB x ∧ (S r → x = m_runsR σ r) ∧ TK b h' t T rc ru (fun i => S i ∨ i = r) ((m_runsT σ r).1 0)) := by
  obtain ⟨wn, ot, un, hc, hl, hp⟩ := H
  obtain ⟨e0, v0⟩ := sd_m hp hr (k := 0) (by omega) (fun h4 => (hS h4).1)
  obtain ⟨e1, v1⟩ := sd_m hp hr (k := 1) (by omega) (fun h4 => (hS h4).2)
  have hB := hp.2.2.2.2
  have l0 := v0.lo
  have l1 := v1.lo
  have cell : ∀ {o : Option Nat} {s : Option Nat}, s = o.bind ru → (∀ i, o = some i → i < 8 ∧ ru i ≠ none) → ∀ q, s = some q → h q = some (eo 10 [.int (nI (o.getD 0)), .int (σ.1 0 (9 + o.getD 0)), .int (σ.1 0 (17 + o.getD 0)), .int (σ.1 0 (25 + o.getD 0))]) := by
    intro o s hs ho q hq
    cases o with
    | none => rw [hs] at hq; cases hq
    | some i => exact hc.cu (ho i rfl).1 (hs.symm.trans hq)
  refine (c_TrunsX l D h hc hr (cell e0 l0) (cell e1 l1)).mono ?_
  rintro v h' ⟨rfl, rfl⟩
  obtain ⟨k1, k2, k3⟩ := k_runs_m hB (ru := ru) l0 l1 (x := k_ahead (σ.1 0 (9 + (lo (m_racer σ r 0)).getD 0)) (nI ((lo (m_racer σ r 0)).getD 0)) (σ.1 0 (9 + (lo (m_racer σ r 1)).getD 0)) (nI ((lo (m_racer σ r 1)).getD 0)))
    (L1 := k_lasts (σ.1 0 (9 + (lo (m_racer σ r 0)).getD 0)) (nI ((lo (m_racer σ r 0)).getD 0)) (σ.1 0 (17 + (lo (m_racer σ r 0)).getD 0)) (σ.1 0 (9 + (lo (m_racer σ r 1)).getD 0)) (nI ((lo (m_racer σ r 1)).getD 0)) (σ.1 0 (17 + (lo (m_racer σ r 1)).getD 0)))
    (L2 := k_lasts (σ.1 0 (9 + (lo (m_racer σ r 1)).getD 0)) (nI ((lo (m_racer σ r 1)).getD 0)) (σ.1 0 (17 + (lo (m_racer σ r 1)).getD 0)) (σ.1 0 (9 + (lo (m_racer σ r 0)).getD 0)) (nI ((lo (m_racer σ r 0)).getD 0)) (σ.1 0 (17 + (lo (m_racer σ r 0)).getD 0)))
    (fun i j hi hj => by rw [hi, hj]; exact ahead_m hB (l0 i hi).1 (l1 j hj).1) (fun i j hi hj => by rw [hi, hj]; rfl) (fun i j hi hj => by rw [hi, hj]; rfl)
  obtain ⟨g1, g2⟩ := rW_ok (σ := σ) (P := fun i => i < 8 ∧ ru i ≠ none ∧ spn r i) v0.lo3 v1.lo3
  have E0 : sd ru wn r 0 = (lo (m_racer σ r 0)).bind ru := e0
  have E1 : sd ru wn r 1 = (lo (m_racer σ r 1)).bind ru := e1
  rw [E0, E1, k1, k2, k3]
  have x1 := rrn_on (ru := ru) (o := (rP σ r).1) (fun i hi => (g1 i hi).1)
  have x2 := rrn_on (ru := ru) (o := (rP σ r).2) (fun i hi => (g2 i hi).1)
  have y1 : Lv ru r (on (rP σ r).1) := Lv.on g1
  have y2 : Lv ru r (on (rP σ r).2) := Lv.on g2
  refine ⟨_, rfl, k_other_B _ _, fun hs => ?_, ?_⟩
  · obtain ⟨w1, -, w3, -⟩ := hp.2.1 r hr hs
    unfold k_other m_runsR
    show (if (rP σ r).1.bind ru = wn r then nI 0 else nI 1) = _
    rw [← x1, w1]
    by_cases he : on (rP σ r).1 = σ.1 0 (33 + r)
    · rw [he, if_pos rfl, if_pos rfl]
      rfl
    · rw [if_neg he, if_neg (fun z => he (Lv.inj (fun i j q hi hj h1 h2 => hc.ruj hi hj h1 h2) y1 w3 z))]
      rfl
  · have a54 := m_runsA_at (σ := σ) (p := rP σ r) hr hr
    have hw : ∀ q, (rP σ r).1.bind ru = some q ∨ (rP σ r).2.bind ru = some q → ∃ fs, h q = some (eo 10 fs) := by
      intro q hq
      rcases hq with hq | hq
      · cases ho : (rP σ r).1 with
        | none => rw [ho] at hq; cases hq
        | some i =>
          rw [ho] at hq
          exact ⟨_, hc.cu (g1 i ho).1 hq⟩
      · cases ho : (rP σ r).2 with
        | none => rw [ho] at hq; cases hq
        | some i =>
          rw [ho] at hq
          exact ⟨_, hc.cu (g2 i ho).1 hq⟩
    have T1 := hc.putR hr (a' := m_runsA σ r (rP σ r)) (w := (rP σ r).1.bind ru) (o := (rP σ r).2.bind ru) (u := uu (rU σ (rP σ r))) hw (fun k hk => m_runsA_out hk hr) (fun i hi hir => by
      obtain ⟨-, -, z1, z2⟩ := m_runsA_at (σ := σ) (p := rP σ r) hr hi
      rw [z1, z2, if_neg hir, if_neg hir]
      exact ⟨rfl, rfl⟩)
    rw [a54.2.2.1, a54.2.2.2, if_pos rfl, if_pos rfl] at T1
    refine ⟨_, _, _, T1, (hl.keep (Kp.put (hc.cr hr) rfl)).row (m_runsA_out (by omega) hr) (fun k h1 h2 => m_runsA_out (by omega) hr), ?_⟩
    refine ⟨fun i hi => ?_, fun i hi hs => ?_, fun i hi => ?_, fun i hi => ?_, hB.row (m_runsA_out (by omega) hr) (fun k h1 h2 => m_runsA_out (by omega) hr)⟩
    · show m_runsA σ r (rP σ r) (1 + i) = _
      rw [m_runsA_out (by omega) hr]
      exact hp.1 i hi
    · show va_up wn r _ i = rrn ru (m_runsA σ r (rP σ r) (33 + i)) ∧ va_up ot r _ i = rrn ru (m_runsA σ r (rP σ r) (40 + i)) ∧ Lv ru i (m_runsA σ r (rP σ r) (33 + i)) ∧ Lv ru i (m_runsA σ r (rP σ r) (40 + i))
      rw [m_runsA_win hr hi, (m_runsA_at (σ := σ) (p := rP σ r) hr hi).1]
      by_cases hir : i = r
      · subst hir
        rw [if_pos rfl, if_pos rfl, va_up_s, va_up_s, x1, x2]
        exact ⟨rfl, rfl, y1, y2⟩
      · rw [if_neg hir, if_neg hir, va_up_n hir, va_up_n hir]
        exact hp.2.1 i hi (hs.resolve_right hir)
    · show vp_updL un r _ i = uu (m_runsA σ r (rP σ r) (47 + i))
      rw [(m_runsA_at (σ := σ) (p := rP σ r) hr hi).2.1]
      by_cases hir : i = r
      · subst hir
        rw [if_pos rfl, pk_uLs]
      · rw [if_neg hir, pk_uLn hir]
        exact hp.2.2.1 i hi
    · show isL (m_runsA σ r (rP σ r) (33 + i))
      rw [m_runsA_win hr hi]
      split
      · exact isL_on (fun j hj => (g1 j hj).1)
      · exact hp.2.2.2.1 i hi
