/-! moments: time and turns of the reference -/
set_option maxRecDepth 100000
theorem m_rcs_out (σ : MS) {k : Nat} (h : k < 33 ∨ 68 ≤ k) : ∀ i, i ≤ 7 → (m_rcs σ i).1 0 k = σ.1 0 k
  | 0, _ => rfl
  | i + 1, hi => by
    have ih := m_rcs_out σ h i (by omega)
    have e : m_rcs σ (i + 1) = m_rc (m_rcs σ i) i := rfl
    rw [e, ← ih]
    generalize m_rcs σ i = τ
    show (m_rcT τ i).1 0 k = _
    unfold m_rcT
    split
    · rfl
    · exact m_runsA_out h (by omega)
theorem m_led_out (σ : MS) {k : Nat} (h : k < 25 ∨ 33 ≤ k) (hW : WF σ) : (m_led σ).1 0 k = σ.1 0 k := by
  unfold m_led
  cases hz : lo (m_leaderNow σ) with
  | none => rfl
  | some j =>
    have hj : j < 8 := hW.leader.lt hz
    show upd (σ.1 0) (25 + j) _ k = _
    exact pk_un (by omega)
theorem m_byS_at {σ : MS} (hW : WF σ) : (m_byS σ).1 0 0 = σ.1 0 0 + 1 ∧ (m_byS σ).1 0 85 = σ.1 0 85 := by
  have W1 := hW.mvS.rcs 7 (by omega)
  unfold m_byS
  rw [m_led_out _ (Or.inl (by omega)) W1, m_led_out _ (Or.inr (by omega)) W1, m_rcs_out _ (Or.inl (by omega)) 7 (by omega), m_rcs_out _ (Or.inr (by omega)) 7 (by omega)]
  constructor
  · show m_mv (m_tick (σ.1 0)) 8 0 = _
    rw [m_mv_out _ (Or.inl (by omega)) 8 (by omega)]
    exact pk_us
  · show m_mv (m_tick (σ.1 0)) 8 85 = _
    rw [m_mv_out _ (Or.inr (by omega)) 8 (by omega)]
    exact pk_un (by omega)
theorem m_byT_at {σ : MS} (hW : WF σ) : (m_byT σ).1 0 0 = σ.1 0 0 + 1 ∧ (m_byT σ).1 0 85 = σ.1 0 85 + (if m_byR σ = 0 then 0 else 1) := by
  obtain ⟨e0, e85⟩ := m_byS_at hW
  have W := hW.byS
  unfold m_byT m_byR
  rw [← e0, ← e85]
  generalize m_byS σ = τ at W ⊢
  unfold m_putsT m_putsR
  by_cases h : m_leaderNow τ = m_leaderBefore τ (kpo τ)
  · rw [if_pos h, if_pos h, if_pos rfl]
    exact ⟨rfl, (Int32.add_zero _).symm⟩
  · rw [if_neg h, if_neg h, if_neg (by decide)]
    exact ⟨m_append_out (Or.inl (by omega)) W.kle, (m_append_84 W.kle).2⟩
theorem m_it_at {σ : MS} (hW : WF σ) : ∀ i, (m_it σ i).2.1 0 0 = σ.1 0 0 + nI i ∧ (m_it σ i).2.1 0 85 = σ.1 0 85 + (m_it σ i).1
  | 0 => by
    rw [m_it]
    exact ⟨(Int32.add_zero _).symm, (Int32.add_zero _).symm⟩
  | i + 1 => by
    obtain ⟨e0, e85⟩ := m_it_at hW i
    obtain ⟨f0, f85⟩ := m_byT_at (hW.it i)
    rw [m_it_2, m_it_1, f0, f85, e0, e85, Int32.add_assoc, Int32.add_assoc]
    exact ⟨congrArg _ (nI_add i 1), rfl⟩
theorem m_it_nat (σ : MS) : ∀ i, ∃ k, k ≤ i ∧ (m_it σ i).1 = nI k
  | 0 => ⟨0, Nat.le_refl 0, by rw [m_it]; rfl⟩
  | i + 1 => by
    obtain ⟨k, hk, e⟩ := m_it_nat σ i
    rw [m_it_1, e]
    split
    · exact ⟨k, by omega, nI_add k 0⟩
    · exact ⟨k + 1, by omega, nI_add k 1⟩
section PL
variable {σ : MS} {x : Int32} {m : Nat}
theorem pause_1 (c : k_inR x (nI 1) (nI 500) = 0) : (m_pause σ x).1 = -10000001 := by
  rw [k_t] at c
  rw [m_pause, if_pos c]
theorem pause_2 (c : ¬ k_inR x (nI 1) (nI 500) = 0) (c2 : ¬ σ.1 0 0 + x ≤ nI 9000) : (m_pause σ x).1 = -10000003 := by
  rw [k_t] at c
  rw [m_pause, if_neg c, if_neg c2]
theorem pause_3 (hm : m < 2 ^ 31) (c : ¬ k_inR (nI m) (nI 1) (nI 500) = 0) (c2 : σ.1 0 0 + nI m ≤ nI 9000) : m_pause σ (nI m) = m_it σ m := by
  rw [k_t] at c
  rw [m_pause, if_neg c, if_pos c2, nI_clamp hm]
theorem pause_n (c : ¬ k_inR x (nI 1) (nI 500) = 0) : ∃ mm : Nat, 1 ≤ mm ∧ mm ≤ 500 ∧ x = nI mm := by
  rw [k_t] at c
  exact m_in_1_500 c
theorem pause_t (hb : Bd (σ.1 0)) (hW : WF σ) (hm : m ≤ 500) (c2 : σ.1 0 0 + nI m ≤ nI 9000) {i : Nat} (hi : i < m) : ((m_it σ i).2.1 0 0).toInt < 9000 := by
  obtain ⟨⟨b1, b2⟩, -⟩ := hb
  rw [(m_it_at hW i).1, i_add (by rw [nI_toInt (by omega)]; omega) (by rw [nI_toInt (by omega)]; omega), nI_toInt (by omega)]
  rw [Int32.le_iff_toInt_le, i_add (by rw [nI_toInt (by omega)]; omega) (by rw [nI_toInt (by omega)]; omega), nI_toInt (by omega), nI_toInt (by omega)] at c2
  omega
theorem sub_self2 (x y : Int32) : x + y - x = y := by
  rw [Int32.sub_eq_add_neg, Int32.add_comm x y, Int32.add_assoc, Int32.add_right_neg, Int32.add_zero]
end PL
