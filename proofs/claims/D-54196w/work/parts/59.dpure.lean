/-! the deeds: the pure part -/
set_option maxRecDepth 100000
def TQ (b h : PH) (t : Nat) (a : Nat → Int32) : Prop := ∃ (T rc : Nat → Nat) (ru : Nat → Option Nat), TK b h t T rc ru Al a
/-- a deed is refused with the code c -/
def Rfd (b : PH) (c : Int32) : String → Nat → PH → Prop := fun E q h' => E = "LeadRaces$Refusal" ∧ ¬ (-10000001 < c) ∧ Ext b h' ∧ ∃ v0 v1 v2 v3 v4 v5 : Value, h' q = some (eo 9 [v0, v1, v2, v3, v4, v5, .int c])
theorem RfX.d {D : va_G} {b h h' : PH} {c : Int32} {E : String} {q : Nat} (H : RfX D h c E q h') (hx : Ext b h) (hc : ¬ (-10000001 < c)) : Rfd b c E q h' := by
  obtain ⟨rfl, hq, cz, r1, r2, rfl⟩ := H
  exact ⟨rfl, hc, hx.trans (Ext.new hq), _, _, _, _, _, _, pu_s _ _ _⟩
theorem rrn_ne {ru : Nat → Option Nat} {j i : Nat} {y : Option Nat} {x : Int32} (h : Lv ru i x) (hj : j < 8) (hx : ¬ x = nI j) : rrn (va_up ru j y) x = rrn ru x ∧ Lv (va_up ru j y) i x := by
  rcases h with rfl | ⟨k, hk, rfl, hn, hs⟩
  · exact ⟨by rw [rrn_m1, rrn_m1], Or.inl rfl⟩
  · have hkj : k ≠ j := fun z => hx (by rw [z])
    rw [rrn_nI hk, rrn_nI hk, va_up_n hkj]
    exact ⟨rfl, Or.inr ⟨k, hk, rfl, by rw [va_up_n hkj]; exact hn, hs⟩⟩
section DP
variable {b h : PH} {t j q : Nat} {T rc : Nat → Nat} {ru : Nat → Option Nat} {S : Nat → Prop} {a : Nat → Int32} {p s : Int32}
theorem m_comeA_at : m_comeA a j p s (9 + j) = p ∧ m_comeA a j p s (17 + j) = s ∧ m_comeA a j p s (25 + j) = 0 ∧ m_comeA a j p s (1 + j) = 1 := by
  unfold m_comeA
  refine ⟨?_, ?_, pk_us, ?_⟩
  · rw [pk_un (by omega), pk_un (by omega), pk_us]
  · rw [pk_un (by omega), pk_us]
  · rw [pk_un (by omega), pk_un (by omega), pk_un (by omega), pk_us]
theorem m_comeA_n {k : Nat} (h1 : k ≠ 1 + j) (h2 : k ≠ 9 + j) (h3 : k ≠ 17 + j) (h4 : k ≠ 25 + j) : m_comeA a j p s k = a k := by
  unfold m_comeA
  rw [pk_un h4, pk_un h3, pk_un h2, pk_un h1]
theorem TK.come (H : TK b h t T rc ru Al a) (hj : j < 8) (hr : ru j = none) (hq : h q = none) (hp : -9999 ≤ p.toInt ∧ p.toInt ≤ 9999) (hs : -99 ≤ s.toInt ∧ s.toInt ≤ 99) :
    TK b (pu (pu h q (eo 10 [.int (nI j), .int p, .int s, .int (nI 0)])) (T 0) (eR 8 (va_up ru j (some q)))) t T rc (va_up ru j (some q)) (fun i => i ≠ j / 2 ∧ i ≠ 4 + j / 4 ∧ i ≠ 6) (m_comeA a j p s) := by
  obtain ⟨wn, ot, un, hc, hl, hT⟩ := H
  have x1 : Ext h (pu h q (eo 10 [.int (nI j), .int p, .int s, .int (nI 0)])) := Ext.new hq
  have c1 := hc.new x1
  obtain ⟨m1, m2, m3, m4⟩ := m_comeA_at (a := a) (j := j) (p := p) (s := s)
  have c2 := c1.putL hj (x := some q) (a' := m_comeA a j p s) (fun q' hq' => by
    cases hq'
    rw [m1, m2, m3]
    exact ⟨pu_s _ _ _, hc.ext.no hq⟩) (m_comeA_n (by omega) (by omega) (by omega) (by omega)) (m_comeA_n (by omega) (by omega) (by omega) (by omega)) (fun k _ _ h3 h4 h5 => m_comeA_n (by omega) h3 h4 h5) (fun k _ _ => m_comeA_n (by omega) (by omega) (by omega) (by omega))
  have hnot : ∀ {i : Nat} {x : Int32}, Lv ru i x → ¬ x = nI j := by
    intro i x hx e
    rcases hx with z | ⟨k, hk, z, hn, -⟩
    · exact nI_nm1 (by omega) (e.symm.trans z)
    · rw [e] at z
      rw [(nI_eq (by omega) (by omega)).mp z] at hr
      exact hn hr
  refine ⟨wn, ot, un, c2, ((hl.keep (Kp.ext x1)).keep (Kp.put c1.ln rfl)).row (m_comeA_n (by omega) (by omega) (by omega) (by omega)) (fun k _ _ => m_comeA_n (by omega) (by omega) (by omega) (by omega)), fun i hi => ?_, fun i hi _ => ?_, fun i hi => ?_, fun i hi => ?_, ?_⟩
  · by_cases hij : i = j
    · subst hij
      rw [m4, va_up_s, if_neg (fun z => by cases z)]
    · rw [m_comeA_n (by omega) (by omega) (by omega) (by omega), va_up_n hij]
      exact hT.1 i hi
  · obtain ⟨g1, g2, g3, g4⟩ := hT.2.1 i hi trivial
    rw [m_comeA_n (k := 33 + i) (by omega) (by omega) (by omega) (by omega), m_comeA_n (k := 40 + i) (by omega) (by omega) (by omega) (by omega)]
    obtain ⟨e1, e2⟩ := rrn_ne (y := some q) g3 hj (hnot g3)
    obtain ⟨e3, e4⟩ := rrn_ne (y := some q) g4 hj (hnot g4)
    exact ⟨g1.trans e1.symm, g2.trans e3.symm, e2, e4⟩
  · rw [m_comeA_n (by omega) (by omega) (by omega) (by omega)]
    exact hT.2.2.1 i hi
  · rw [m_comeA_n (by omega) (by omega) (by omega) (by omega)]
    exact hT.2.2.2.1 i hi
  · obtain ⟨b1, b2⟩ := hT.2.2.2.2
    have e0 : m_comeA a j p s 0 = a 0 := m_comeA_n (by omega) (by omega) (by omega) (by omega)
    refine ⟨by rw [e0]; exact b1, fun i hi => ?_⟩
    rw [e0]
    by_cases hij : i = j
    · subst hij
      rw [m1, m2]
      exact ⟨hs, by omega⟩
    · rw [m_comeA_n (k := 17 + i) (by omega) (by omega) (by omega) (by omega), m_comeA_n (k := 9 + i) (by omega) (by omega) (by omega) (by omega)]
      exact b2 i hi
theorem TK.go (H : TK b h t T rc ru Al a) (hj : j < 8) : TK b (pu h (T 0) (eR 8 (va_up ru j none))) t T rc (va_up ru j none) (fun i => i ≠ j / 2 ∧ i ≠ 4 + j / 4 ∧ i ≠ 6) (upd a (1 + j) 0) := by
  obtain ⟨wn, ot, un, hc, hl, hT⟩ := H
  have c2 := hc.putL hj (x := none) (a' := upd a (1 + j) 0) (fun q' hq' => by cases hq') (pk_un (by omega)) (pk_un (by omega)) (fun k _ _ h3 h4 h5 => pk_un (by omega)) (fun k _ _ => pk_un (by omega))
  refine ⟨wn, ot, un, c2, (hl.keep (Kp.put hc.ln rfl)).row (pk_un (by omega)) (fun k _ _ => pk_un (by omega)), fun i hi => ?_, fun i hi hs => ?_, fun i hi => ?_, fun i hi => ?_, hT.2.2.2.2.row (pk_un (by omega)) (fun k _ _ => pk_un (by omega))⟩
  · by_cases hij : i = j
    · subst hij
      rw [pk_us, va_up_s, if_pos rfl]
    · rw [pk_un (by omega), va_up_n hij]
      exact hT.1 i hi
  · have hnot : ∀ {x : Int32}, Lv ru i x → ¬ x = nI j := by
      intro x hx e
      rcases hx with z | ⟨k, hk, z, hn, hsp⟩
      · exact nI_nm1 (by omega) (e.symm.trans z)
      · rw [e] at z
        have hjk := (nI_eq (by omega) (by omega)).mp z
        subst hjk
        unfold spn at hsp
        omega
    obtain ⟨g1, g2, g3, g4⟩ := hT.2.1 i hi trivial
    rw [pk_un (by omega), pk_un (by omega)]
    obtain ⟨e1, e2⟩ := rrn_ne (y := none) g3 hj (hnot g3)
    obtain ⟨e3, e4⟩ := rrn_ne (y := none) g4 hj (hnot g4)
    exact ⟨g1.trans e1.symm, g2.trans e3.symm, e2, e4⟩
  · rw [pk_un (by omega)]
    exact hT.2.2.1 i hi
  · rw [pk_un (by omega)]
    exact hT.2.2.2.1 i hi
theorem TK.speed (H : TK b h t T rc ru Al a) (hj : j < 8) (hr : ru j = some q) (hs : -99 ≤ s.toInt ∧ s.toInt ≤ 99) :
    TK b (pu h q (eo 10 [.int (nI j), .int (a (9 + j)), .int s, .int (a (25 + j))])) t T rc ru Al (upd a (17 + j) s) := by
  obtain ⟨wn, ot, un, hc, hl, hT⟩ := H
  have T1 := hc.putU hj hr (a' := upd a (17 + j) s) (pk_un (by omega)) (pk_un (by omega)) (fun k _ _ _ h4 _ => pk_un h4) (fun k _ _ => pk_un (by omega))
  rw [pk_us, pk_un (by omega), pk_un (by omega)] at T1
  refine ⟨wn, ot, un, T1, (hl.keep (Kp.put (hc.cu hj hr) rfl)).row (pk_un (by omega)) (fun k _ _ => pk_un (by omega)), fun i hi => ?_, fun i hi _ => ?_, fun i hi => ?_, fun i hi => ?_, ?_⟩
  · rw [pk_un (by omega)]
    exact hT.1 i hi
  · rw [pk_un (by omega), pk_un (by omega)]
    exact hT.2.1 i hi trivial
  · rw [pk_un (by omega)]
    exact hT.2.2.1 i hi
  · rw [pk_un (by omega)]
    exact hT.2.2.2.1 i hi
  · obtain ⟨b1, b2⟩ := hT.2.2.2.2
    have e0 : upd a (17 + j) s 0 = a 0 := pk_un (by omega)
    refine ⟨by rw [e0]; exact b1, fun i hi => ?_⟩
    rw [e0, show upd a (17 + j) s (9 + i) = a (9 + i) from pk_un (by omega)]
    refine ⟨?_, (b2 i hi).2⟩
    by_cases hij : i = j
    · subst hij
      rw [pk_us]
      exact hs
    · rw [pk_un (by omega)]
      exact (b2 i hi).1
theorem TK.jump (H : TK b h t T rc ru Al a) (hj : j < 8) (hr : ru j = some q) (hp : -1000000 ≤ p.toInt ∧ p.toInt ≤ 1000000) :
    TK b (pu h q (eo 10 [.int (nI j), .int p, .int (a (17 + j)), .int (a (25 + j))])) t T rc ru Al (upd a (9 + j) p) := by
  obtain ⟨wn, ot, un, hc, hl, hT⟩ := H
  have T1 := hc.putU hj hr (a' := upd a (9 + j) p) (pk_un (by omega)) (pk_un (by omega)) (fun k _ _ h3 _ _ => pk_un h3) (fun k _ _ => pk_un (by omega))
  rw [pk_us, pk_un (by omega), pk_un (by omega)] at T1
  refine ⟨wn, ot, un, T1, (hl.keep (Kp.put (hc.cu hj hr) rfl)).row (pk_un (by omega)) (fun k _ _ => pk_un (by omega)), fun i hi => ?_, fun i hi _ => ?_, fun i hi => ?_, fun i hi => ?_, ?_⟩
  · rw [pk_un (by omega)]
    exact hT.1 i hi
  · rw [pk_un (by omega), pk_un (by omega)]
    exact hT.2.1 i hi trivial
  · rw [pk_un (by omega)]
    exact hT.2.2.1 i hi
  · rw [pk_un (by omega)]
    exact hT.2.2.2.1 i hi
  · obtain ⟨b1, b2⟩ := hT.2.2.2.2
    have e0 : upd a (9 + j) p 0 = a 0 := pk_un (by omega)
    refine ⟨by rw [e0]; exact b1, fun i hi => ?_⟩
    rw [e0, show upd a (9 + j) p (17 + i) = a (17 + i) from pk_un (by omega)]
    refine ⟨(b2 i hi).1, ?_⟩
    by_cases hij : i = j
    · subst hij
      rw [pk_us]
      omega
    · rw [pk_un (by omega)]
      exact (b2 i hi).2
end DP
/-! somebody leads where somebody runs -/
theorem rW_some {σ : MS} {oa ob : Option Nat} (h : oa ≠ none ∨ ob ≠ none) : ∃ i, (rW σ oa ob).1 = some i := by
  cases oa with
  | none =>
    cases ob with
    | none => exact absurd rfl (h.resolve_left (fun z => z rfl))
    | some j => exact ⟨j, rfl⟩
  | some i =>
    cases ob with
    | none => exact ⟨i, rfl⟩
    | some j =>
      unfold rW
      dsimp only
      split
      · exact ⟨j, rfl⟩
      · exact ⟨i, rfl⟩
theorem lo_ne {x : Int32} (h : ¬ x = -1) : lo x ≠ none := by
  unfold lo
  rw [if_neg h]
  exact nofun
theorem win_ne {σ : MS} (hW : WF σ) {r w : Nat} (hr : r < 7) (hw : w < 2) (h : ¬ m_racer σ r w = -1) : ¬ (m_runsT σ r).1 0 (33 + r) = -1 := by
  show ¬ m_runsA σ r (rP σ r) (33 + r) = -1
  rw [m_runsA_win hr hr, if_pos rfl]
  have h2 : lo (m_racer σ r 0) ≠ none ∨ lo (m_racer σ r 1) ≠ none := by
    rcases (show w = 0 ∨ w = 1 by omega) with rfl | rfl
    · exact Or.inl (lo_ne h)
    · exact Or.inr (lo_ne h)
  obtain ⟨i, hi⟩ := rW_some (σ := σ) h2
  have hi2 : (rP σ r).1 = some i := hi
  have hl := (hW.rp hr).1
  rw [hi2] at hl ⊢
  rcases hl with e | ⟨k, hk, e⟩
  · obtain ⟨g1, g2⟩ := hW.ro hr
    have := (rW_lt (σ := σ) (fun j z => g1.lt z) (fun j z => g2.lt z)).1 i hi
    exact nI_nm1 (by omega)
  · rw [show on (some i) = nI k from e]
    exact nI_nm1 (by omega)
theorem led_ne {σ : MS} (hW : WF σ) {j : Nat} (hj : j < 8) (h : ¬ m_has σ j = 0) : ¬ m_leaderNow (m_forT σ j) = -1 := by
  have e1 : ¬ (m_runsT σ (j / 2)).1 0 (33 + j / 2) = -1 := by
    refine win_ne hW (r := j / 2) (w := j % 2) (by omega) (by omega) ?_
    unfold m_racer
    rw [if_pos (by omega), show 2 * (j / 2) + j % 2 = j by omega, if_neg h]
    exact nI_nm1 (by omega)
  have W1 := hW.runs (r := j / 2) (by omega)
  have e2 : ¬ (m_runsT (m_runsT σ (j / 2)) (4 + j / 4)).1 0 (33 + (4 + j / 4)) = -1 := by
    refine win_ne W1 (r := 4 + j / 4) (w := (j / 2) % 2) (by omega) (by omega) ?_
    unfold m_racer
    rw [if_neg (by omega), show 33 + 2 * (4 + j / 4 - 4) + j / 2 % 2 = 33 + j / 2 by omega]
    exact e1
  have W2 := W1.runs (r := 4 + j / 4) (by omega)
  have e3 : ¬ (m_forS σ j).1 0 (33 + 6) = -1 := by
    refine win_ne W2 (r := 6) (w := j / 4) (by omega) (by omega) ?_
    unfold m_racer
    rw [if_neg (by omega), show 33 + 2 * (6 - 4) + j / 4 = 33 + (4 + j / 4) by omega]
    exact e2
  have W3 := hW.forS hj
  unfold m_forT m_putsT
  split
  · exact e3
  · show ¬ m_append ((m_forS σ j).1 0) (kpo (m_forS σ j)) 39 = -1
    rw [m_append_out (by omega) W3.kle]
    exact e3
/-- a lane's number, or none -/
theorem ln_in {j : Nat} (hj : j < 8) : ln (nI j) = some j := by
  unfold ln
  rw [m_isLane_in hj, if_neg (by decide), nI_clamp (by omega)]
theorem ln_out {x : Int32} (h : x < 0 ∨ nI 8 ≤ x) : ln x = none := by
  unfold ln
  by_cases hz : m_isLane x = 0
  · rw [if_pos hz]
  · have := m_isLane_iff.mp hz
    rcases h with h | h
    · rw [Int32.lt_iff_toInt_lt, i_zero] at h
      omega
    · rw [Int32.le_iff_toInt_le, nI_toInt (by omega)] at h
      omega
theorem out8 {x : Int32} (h : x < 0 ∨ nI 8 ≤ x) : x < 0 ∨ 8 ≤ x.toNatClampNeg := by
  rcases h with h | h
  · exact Or.inl h
  · right
    by_cases h0 : x < 0
    · rw [Int32.lt_iff_toInt_lt, i_zero] at h0
      rw [Int32.le_iff_toInt_le, nI_toInt (by omega)] at h
      omega
    · obtain ⟨k, hk, rfl⟩ := nI_of h0
      rw [nI_clamp hk]
      exact (nI_leI (by omega) hk).mp h
