/-! the deeds: answers of the reference -/
set_option maxRecDepth 100000
theorem ln_cases (x : Int32) : (∃ j : Nat, j < 8 ∧ x = nI j) ∨ (x < 0 ∨ nI 8 ≤ x) := by
  by_cases h0 : x < 0
  · exact Or.inr (Or.inl h0)
  · obtain ⟨k, hk, rfl⟩ := nI_of h0
    by_cases h8 : k < 8
    · exact Or.inl ⟨k, h8, rfl⟩
    · exact Or.inr (Or.inr ((nI_leI (by omega) hk).mpr (by omega)))
theorem gt_of {x : Int32} (h : -10000001 < x.toInt) : -10000001 < x := by
  rw [Int32.lt_iff_toInt_lt, show (-10000001 : Int32).toInt = -10000001 by decide +kernel]
  exact h
theorem gt_nI {k : Nat} (h : k < 2 ^ 30) : -10000001 < nI k := gt_of (by rw [nI_toInt (by omega)]; omega)
theorem has_n {a : Nat → Int32} {ru : Nat → Option Nat} {σ : MS} (e : σ.1 0 = a) (hh : ∀ i, i < 8 → a (1 + i) = if ru i = none then 0 else 1) {j : Nat} (hj : j < 8) (hr : ru j = none) : m_has σ j = 0 := by
  unfold m_has
  rw [e, hh j hj, if_pos hr, if_neg (by decide)]
theorem has_s {a : Nat → Int32} {ru : Nat → Option Nat} {σ : MS} (e : σ.1 0 = a) (hh : ∀ i, i < 8 → a (1 + i) = if ru i = none then 0 else 1) {j q : Nat} (hj : j < 8) (hr : ru j = some q) : ¬ m_has σ j = 0 := by
  have e2 : a (1 + j) = 1 := (hh j hj).trans (if_neg (fun z => by rw [hr] at z; cases z))
  unfold m_has
  rw [e, e2, if_pos rfl]
  decide
theorem k_p {p : Int32} : k_inR p (-9999) (nI 9999) = m_in p.toInt64 (-9999) 9999 := k_inR_m (lo' := -9999) (hi' := 9999) (by decide +kernel) (by decide +kernel)
theorem k_s {p : Int32} : k_inR p (-99) (nI 99) = m_isSpeed p := k_inR_m (lo' := -99) (hi' := 99) (by decide +kernel) (by decide +kernel)
theorem k_w {p : Int32} : k_inR p (-999) (nI 999) = m_in p.toInt64 (-999) 999 := k_inR_m (lo' := -999) (hi' := 999) (by decide +kernel) (by decide +kernel)
theorem k_f {p : Int32} : k_inR p (-1000000) 1000000 = m_in p.toInt64 (-1000000) 1000000 := k_inR_m (lo' := -1000000) (hi' := 1000000) (by decide +kernel) (by decide +kernel)
theorem k_t {p : Int32} : k_inR p (nI 1) (nI 500) = m_in p.toInt64 1 500 := k_inR_m (lo' := 1) (hi' := 500) (by decide +kernel) (by decide +kernel)
section DL
variable {σ : MS} {j : Nat} {x p s : Int32}
theorem m_come_in (hj : j < 8) : m_come σ (nI j) p s = m_come1 σ j p s := by unfold m_come; rw [ln_in hj]
theorem m_go_in (hj : j < 8) : m_go σ (nI j) = m_go1 σ j := by unfold m_go; rw [ln_in hj]
theorem m_speed_in (hj : j < 8) : m_speed σ (nI j) s = m_speed1 σ j s := by unfold m_speed; rw [ln_in hj]
theorem m_jump_in (hj : j < 8) : m_jump σ (nI j) p = m_jump1 σ j p := by unfold m_jump; rw [ln_in hj]
theorem m_come_out (h : x < 0 ∨ nI 8 ≤ x) : (m_come σ x p s).1 = -10000001 := by unfold m_come; rw [ln_out h]
theorem m_go_out (h : x < 0 ∨ nI 8 ≤ x) : (m_go σ x).1 = -10000001 := by unfold m_go; rw [ln_out h]
theorem m_speed_out (h : x < 0 ∨ nI 8 ≤ x) : (m_speed σ x s).1 = -10000001 := by unfold m_speed; rw [ln_out h]
theorem m_jump_out (h : x < 0 ∨ nI 8 ≤ x) : (m_jump σ x p).1 = -10000001 := by unfold m_jump; rw [ln_out h]
theorem come_1 (hj : j < 8) (c : k_inR p (-9999) (nI 9999) = 0) : (m_come σ (nI j) p s).1 = -10000001 := by
  rw [k_p] at c
  rw [m_come_in hj, m_come1, if_pos c]
theorem come_2 (hj : j < 8) (c : ¬ k_inR p (-9999) (nI 9999) = 0) (c2 : k_inR s (-99) (nI 99) = 0) : (m_come σ (nI j) p s).1 = -10000001 := by
  rw [k_p] at c
  rw [k_s] at c2
  rw [m_come_in hj, m_come1, if_neg c, if_pos c2]
theorem come_3 (hj : j < 8) (c : ¬ k_inR p (-9999) (nI 9999) = 0) (c2 : ¬ k_inR s (-99) (nI 99) = 0) (c3 : ¬ m_has σ j = 0) : (m_come σ (nI j) p s).1 = -10000002 := by
  rw [k_p] at c
  rw [k_s] at c2
  rw [m_come_in hj, m_come1, if_neg c, if_neg c2, if_neg c3]
theorem come_4 (hj : j < 8) (c : ¬ k_inR p (-9999) (nI 9999) = 0) (c2 : ¬ k_inR s (-99) (nI 99) = 0) (c3 : m_has σ j = 0) : m_come σ (nI j) p s = (m_leaderNow (m_forT (sA σ 0 (m_comeA (σ.1 0) j p s)) j), m_forT (sA σ 0 (m_comeA (σ.1 0) j p s)) j) := by
  rw [k_p] at c
  rw [k_s] at c2
  rw [m_come_in hj, m_come1, if_neg c, if_neg c2, if_pos c3]
theorem go_1 (hj : j < 8) (c : m_has σ j = 0) : (m_go σ (nI j)).1 = -10000002 := by
  rw [m_go_in hj, m_go1, if_pos c]
theorem go_2 (hj : j < 8) (c : ¬ m_has σ j = 0) : m_go σ (nI j) = (m_runners (m_forT (sA σ 0 (upd (σ.1 0) (1 + j) 0)) j), m_forT (sA σ 0 (upd (σ.1 0) (1 + j) 0)) j) := by
  rw [m_go_in hj, m_go1, if_neg c]
theorem speed_1 (hj : j < 8) (c : k_inR s (-99) (nI 99) = 0) : (m_speed σ (nI j) s).1 = -10000001 := by
  rw [k_s] at c
  rw [m_speed_in hj, m_speed1, if_pos c]
theorem speed_2 (hj : j < 8) (c : ¬ k_inR s (-99) (nI 99) = 0) (c2 : m_has σ j = 0) : (m_speed σ (nI j) s).1 = -10000002 := by
  rw [k_s] at c
  rw [m_speed_in hj, m_speed1, if_neg c, if_pos c2]
theorem speed_3 (hj : j < 8) (c : ¬ k_inR s (-99) (nI 99) = 0) (c2 : ¬ m_has σ j = 0) : m_speed σ (nI j) s = (σ.1 0 (17 + j), m_forT (sA σ 0 (upd (σ.1 0) (17 + j) s)) j) := by
  rw [k_s] at c
  rw [m_speed_in hj, m_speed1, if_neg c, if_neg c2]
theorem jump_1 (hj : j < 8) (c : k_inR p (-999) (nI 999) = 0) : (m_jump σ (nI j) p).1 = -10000001 := by
  rw [k_w] at c
  rw [m_jump_in hj, m_jump1, if_pos c]
theorem jump_2 (hj : j < 8) (c : ¬ k_inR p (-999) (nI 999) = 0) (c2 : m_has σ j = 0) : (m_jump σ (nI j) p).1 = -10000002 := by
  rw [k_w] at c
  rw [m_jump_in hj, m_jump1, if_neg c, if_pos c2]
theorem jump_3 (hj : j < 8) (c : ¬ k_inR p (-999) (nI 999) = 0) (c2 : ¬ m_has σ j = 0) (c3 : k_inR (σ.1 0 (9 + j) + p) (-1000000) 1000000 = 0) : (m_jump σ (nI j) p).1 = -10000003 := by
  rw [k_w] at c
  rw [k_f] at c3
  rw [m_jump_in hj, m_jump1, if_neg c, if_neg c2, if_pos c3]
theorem jump_4 (hj : j < 8) (c : ¬ k_inR p (-999) (nI 999) = 0) (c2 : ¬ m_has σ j = 0) (c3 : ¬ k_inR (σ.1 0 (9 + j) + p) (-1000000) 1000000 = 0) : m_jump σ (nI j) p = (m_leaderNow (m_forT (sA σ 0 (upd (σ.1 0) (9 + j) (σ.1 0 (9 + j) + p))) j), m_forT (sA σ 0 (upd (σ.1 0) (9 + j) (σ.1 0 (9 + j) + p))) j) := by
  rw [k_w] at c
  rw [k_f] at c3
  rw [m_jump_in hj, m_jump1, if_neg c, if_neg c2, if_neg c3]
end DL
theorem runs0_nat {a : Nat → Int32} {ru : Nat → Option Nat} (hh : ∀ i, i < 8 → a (1 + i) = if ru i = none then 0 else 1) : ∀ i, i ≤ 8 → ∃ k, k ≤ i ∧ m_runs0 a i = nI k
  | 0, _ => ⟨0, Nat.le_refl 0, rfl⟩
  | i + 1, hi => by
    obtain ⟨k, hk, e⟩ := runs0_nat hh i (by omega)
    have e1 : m_runs0 a (i + 1) = m_runs0 a i + a (1 + i) := rfl
    have e2 := hh i (by omega)
    by_cases hz : ru i = none
    · rw [if_pos hz] at e2
      exact ⟨k, by omega, by rw [e1, e2, e]; exact nI_add k 0⟩
    · rw [if_neg hz] at e2
      exact ⟨k + 1, by omega, by rw [e1, e2, e]; exact nI_add k 1⟩
theorem TK.hh {b h : PH} {t : Nat} {T rc : Nat → Nat} {ru : Nat → Option Nat} {S : Nat → Prop} {a : Nat → Int32} (H : TK b h t T rc ru S a) : ∀ i, i < 8 → a (1 + i) = if ru i = none then 0 else 1 := by
  obtain ⟨wn, ot, un, h1, h2, h3⟩ := H
  exact h3.1
theorem TK.bd {b h : PH} {t : Nat} {T rc : Nat → Nat} {ru : Nat → Option Nat} {S : Nat → Prop} {a : Nat → Int32} (H : TK b h t T rc ru S a) : Bd a := by
  obtain ⟨wn, ot, un, h1, h2, h3⟩ := H
  exact h3.2.2.2.2
theorem TK.cu {b h : PH} {t : Nat} {T rc : Nat → Nat} {ru : Nat → Option Nat} {S : Nat → Prop} {a : Nat → Int32} (H : TK b h t T rc ru S a) {j q : Nat} (hj : j < 8) (hq : ru j = some q) : h q = some (eo 10 [.int (nI j), .int (a (9 + j)), .int (a (17 + j)), .int (a (25 + j))]) := by
  obtain ⟨wn, ot, un, h1, h2, h3⟩ := H
  exact h1.cu hj hq
