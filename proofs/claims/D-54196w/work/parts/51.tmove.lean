/-! a moment goes by: the pure part -/
set_option maxRecDepth 100000
theorem upd_id {f : Nat → Int32} {k : Nat} {x : Int32} (h : x = f k) : upd f k x = f := by
  funext j
  by_cases hj : j = k
  · rw [hj, pk_us, h]
  · rw [pk_un hj]
theorem upd_cm {f : Nat → Int32} {i j : Nat} {x y : Int32} (h : i ≠ j) : upd (upd f i x) j y = upd (upd f j y) i x := by
  funext k
  by_cases h1 : k = i
  · rw [h1, pk_un h, pk_us, pk_us]
  · by_cases h2 : k = j
    · rw [h2, pk_us, pk_un (Ne.symm h), pk_us]
    · rw [pk_un h2, pk_un h1, pk_un h1, pk_un h2]
theorem TK.congr {b h : PH} {t : Nat} {T rc : Nat → Nat} {ru : Nat → Option Nat} {S : Nat → Prop} {a a' : Nat → Int32} (H : TK b h t T rc ru S a) (e : ∀ k, k < 88 → a' k = a k) : TK b h t T rc ru S a' := by
  obtain ⟨wn, ot, un, h1, h2, h3⟩ := H
  refine ⟨wn, ot, un, h1.row (e _ (by omega)) (e _ (by omega)) (fun k _ _ => e k (by omega)) (fun k _ _ => e k (by omega)), h2.row (e _ (by omega)) (fun k _ _ => e k (by omega)), h3.row (fun k hk => e k (by omega))⟩
theorem m_mv_at (a : Nat → Int32) : ∀ i, i ≤ 8 → ∀ j, j < 8 → m_mv a i (9 + j) = if j < i then a (9 + j) + (if m_hasA a j = 0 then 0 else a (17 + j)) else a (9 + j)
  | 0, _, j, _ => by rw [if_neg (by omega)]; rfl
  | i + 1, hi, j, hj => by
    have ih := m_mv_at a i (by omega)
    have e1 : m_hasA (m_mv a i) i = m_hasA a i := by unfold m_hasA; rw [m_mv_out a (by omega) i (by omega)]
    rw [m_mv, e1, m_mv_out a (j := 17 + i) (by omega) i (by omega), ih i (by omega), if_neg (by omega)]
    by_cases hji : j = i
    · subst hji
      rw [pk_us, if_pos (show j < j + 1 by omega)]
    · rw [pk_un (by omega), ih j hj]
      by_cases hlt : j < i
      · rw [if_pos hlt, if_pos (show j < i + 1 by omega)]
      · rw [if_neg hlt, if_neg (show ¬ j < i + 1 by omega)]
section MV
variable {b h : PH} {t : Nat} {T rc : Nat → Nat} {ru wn ot : Nat → Option Nat} {un : Nat → Int64} {S : Nat → Prop} {a : Nat → Int32} {σ : MS}
theorem hasA_n (hh : ∀ i, i < 8 → a (1 + i) = if ru i = none then 0 else 1) {i : Nat} (hi : i < 8) (hq : ru i = none) : m_hasA a i = 0 := by
  have e := hh i hi
  rw [if_pos hq] at e
  unfold m_hasA
  rw [e]
  rfl
theorem hasA_s (hh : ∀ i, i < 8 → a (1 + i) = if ru i = none then 0 else 1) {i q : Nat} (hi : i < 8) (hq : ru i = some q) : ¬ m_hasA a i = 0 := by
  have e := hh i hi
  rw [if_neg (by rw [hq]; exact nofun)] at e
  unfold m_hasA
  rw [e]
  decide
/-- the runner of the lane i moves -/
theorem Tc.mvS {i q : Nat} (H : Tc b h t T rc ru wn ot un (m_mv a i)) (hh : ∀ i, i < 8 → a (1 + i) = if ru i = none then 0 else 1) (hi : i < 8) (hq : ru i = some q) :
    Tc b (pu h q (eo 10 [.int (nI i), .int (m_mv a i (9 + i) + m_mv a i (17 + i)), .int (m_mv a i (17 + i)), .int (m_mv a i (25 + i))])) t T rc ru wn ot un (m_mv a (i + 1)) := by
  have hh2 : ¬ m_hasA (m_mv a i) i = 0 := by
    have e1 : m_hasA (m_mv a i) i = m_hasA a i := by unfold m_hasA; rw [m_mv_out a (by omega) i (by omega)]
    rw [e1]
    exact hasA_s hh hi hq
  have e : m_mv a (i + 1) = upd (m_mv a i) (9 + i) (m_mv a i (9 + i) + m_mv a i (17 + i)) := by rw [m_mv, if_neg hh2]
  have T1 := H.putU hi hq (a' := m_mv a (i + 1)) (by rw [e, pk_un (by omega)]) (by rw [e, pk_un (by omega)]) (fun k h1 h2 h3 h4 h5 => by rw [e, pk_un h3]) (fun k h1 h2 => by rw [e, pk_un (by omega)])
  rw [show m_mv a (i + 1) (9 + i) = m_mv a i (9 + i) + m_mv a i (17 + i) by rw [e, pk_us], show m_mv a (i + 1) (17 + i) = m_mv a i (17 + i) by rw [e, pk_un (by omega)], show m_mv a (i + 1) (25 + i) = m_mv a i (25 + i) by rw [e, pk_un (by omega)]] at T1
  exact T1
/-- the lane i is empty -/
theorem m_mv_n (hh : ∀ i, i < 8 → a (1 + i) = if ru i = none then 0 else 1) {i : Nat} (hi : i < 8) (hq : ru i = none) : m_mv a (i + 1) = m_mv a i := by
  have e1 : m_hasA (m_mv a i) i = m_hasA a i := by unfold m_hasA; rw [m_mv_out a (by omega) i (by omega)]
  rw [m_mv, e1, if_pos (hasA_n hh hi hq)]
  exact upd_id (Int32.add_zero _)
theorem Bd.mv (H : Bd a) (ht : (a 0).toInt < 9000) : Bd (m_mv (m_tick a) 8) := by
  obtain ⟨h1, h2⟩ := H
  have e0 : m_mv (m_tick a) 8 0 = a 0 + 1 := by rw [m_mv_out _ (by omega) 8 (by omega)]; exact pk_us
  have t0 : (a 0 + 1).toInt = (a 0).toInt + 1 := by rw [i_add (by rw [i_one]; omega) (by rw [i_one]; omega), i_one]
  refine ⟨by rw [e0, t0]; omega, fun i hi => ?_⟩
  have e17 : m_mv (m_tick a) 8 (17 + i) = a (17 + i) := by
    rw [m_mv_out _ (by omega) 8 (by omega)]
    exact pk_un (by omega)
  have k9 : m_tick a (9 + i) = a (9 + i) := pk_un (by omega)
  have k17 : m_tick a (17 + i) = a (17 + i) := pk_un (by omega)
  rw [e17, e0, t0, m_mv_at _ 8 (by omega) i hi, if_pos hi, k9, k17]
  obtain ⟨s1, p1⟩ := h2 i hi
  refine ⟨s1, ?_⟩
  split
  · rw [Int32.add_zero]
    omega
  · rw [i_add (by omega) (by omega)]
    omega
/-- after all have moved -/
theorem TK.moved {h2 : PH} (hp : Tp S ru wn ot un (σ.1 0)) (ht : (σ.1 0 0).toInt < 9000) (hc : Tc b h2 t T rc ru wn ot un (m_mv (m_tick (σ.1 0)) 8)) (hl : Tl b h2 (T 3) (m_mv (m_tick (σ.1 0)) 8)) : TK b h2 t T rc ru S ((m_mvS σ).1 0) := by
  have o : ∀ k, 0 < k → k < 9 ∨ 17 ≤ k → m_mv (m_tick (σ.1 0)) 8 k = σ.1 0 k := by
    intro k h0 hk
    rw [m_mv_out _ hk 8 (by omega)]
    exact pk_un (by omega)
  refine ⟨wn, ot, un, hc, hl, fun i hi => ?_, fun i hi hs => ?_, fun i hi => ?_, fun i hi => ?_, hp.2.2.2.2.mv ht⟩
  · show m_mv (m_tick (σ.1 0)) 8 (1 + i) = _
    rw [o _ (by omega) (by omega)]
    exact hp.1 i hi
  · show wn i = rrn ru (m_mv (m_tick (σ.1 0)) 8 (33 + i)) ∧ ot i = rrn ru (m_mv (m_tick (σ.1 0)) 8 (40 + i)) ∧ Lv ru i (m_mv (m_tick (σ.1 0)) 8 (33 + i)) ∧ Lv ru i (m_mv (m_tick (σ.1 0)) 8 (40 + i))
    rw [o (33 + i) (by omega) (by omega), o (40 + i) (by omega) (by omega)]
    exact hp.2.1 i hi hs
  · show un i = uu (m_mv (m_tick (σ.1 0)) 8 (47 + i))
    rw [o _ (by omega) (by omega)]
    exact hp.2.2.1 i hi
  · show isL (m_mv (m_tick (σ.1 0)) 8 (33 + i))
    rw [o _ (by omega) (by omega)]
    exact hp.2.2.2.1 i hi
end MV
theorem uu_time {x t : Int32} (ht : 0 ≤ t.toInt) : lg_cmp (uu x) t.toInt64 = 0 ↔ x = t := by
  rw [lg_cmp_0]
  have h1 : ¬ t = -1 := fun z => by rw [z, i_m1] at ht; omega
  rw [← uu_n h1]
  exact ⟨fun h => uu_inj h, fun h => by rw [h]⟩
theorem stale_L {σ : MS} {r : Nat} {u : Int64} (ht : 0 ≤ (σ.1 0 0).toInt) (hu : u = uu (σ.1 0 (47 + r))) (hr : r < 4) : (if lg_cmp u (σ.1 0 0).toInt64 = 0 then nI 1 else nI 0) = m_due σ r := by
  unfold m_due
  rw [hu]
  by_cases h : σ.1 0 (47 + r) = σ.1 0 0
  · rw [if_pos ((uu_time ht).mpr h), if_pos h]
    rfl
  · rw [if_neg (fun z => h ((uu_time ht).mp z)), if_neg h, if_pos (nI_le (by omega) (by omega))]
    rfl
theorem stale_H {σ : MS} {r : Nat} {u : Int64} {g : Nat → Int32} (ht : 0 ≤ (σ.1 0 0).toInt) (hu : u = uu (σ.1 0 (47 + r))) (h4 : 4 ≤ r) (hr : r < 7) (hg : ∀ j, j < r → isB (g j) ∧ g j = σ.1 3 j) : (if (if g (2 * (r - 4)) = 0 then (if g (2 * (r - 4) + 1) = 0 then nI 0 else nI 1) else nI 1) = 0 then (if lg_cmp u (σ.1 0 0).toInt64 = 0 then nI 1 else nI 0) else nI 1) = m_due σ r := by
  unfold m_due
  obtain ⟨b1, e1⟩ := hg (2 * (r - 4)) (by omega)
  obtain ⟨b2, e2⟩ := hg (2 * (r - 4) + 1) (by omega)
  rw [hu, if_neg (nI_ge (show 3 < r by omega) (by omega)), ← e1, ← e2]
  by_cases h : σ.1 0 (47 + r) = σ.1 0 0
  · rw [if_pos ((uu_time ht).mpr h), if_pos h, ite_self]
    rfl
  · rw [if_neg (fun z => h ((uu_time ht).mp z)), if_neg h]
    rcases b1 with z1 | z1 <;> rcases b2 with z2 | z2 <;> rw [z1, z2] <;> decide
theorem m_due_B (σ : MS) (r : Nat) : isB (m_due σ r) := isB_ite isB_1 (isB_ite isB_0 (isB_ite isB_0 isB_1))
theorem m_rcO_B (σ : MS) (r : Nat) : isB (m_rcO σ r) := isB_ite isB_0 (isB_ite isB_0 isB_1)
theorem m_sh_upd (a : Nat → Int32) {p : Nat} {x : Int32} (hp : p < 68) : ∀ i, m_sh (upd a p x) i = upd (m_sh a i) p x
  | 0 => rfl
  | i + 1 => by
    rw [m_sh, m_sh, m_sh_upd a hp i, pk_un (by omega), pk_un (by omega), upd_cm (i := p) (by omega), upd_cm (i := p) (by omega)]
theorem m_ap0_upd {a : Nat → Int32} {p c : Nat} {x : Int32} (hp : 0 < p) (hp1 : p ≠ 39) (hp2 : p < 68) : m_ap0 (upd a p x) c = upd (m_ap0 a c) p x := by
  unfold m_ap0
  rw [pk_un (by omega), pk_un (by omega), pk_un (by omega), upd_cm (i := p) (by omega), upd_cm (i := p) (by omega), upd_cm (i := p) (by omega), upd_cm (i := p) (by omega)]
theorem m_append_upd {a : Nat → Int32} {p n : Nat} {x : Int32} (hp : 0 < p) (hp1 : p ≠ 39) (hp2 : p < 68) : m_append (upd a p x) n = upd (m_append a n) p x := by
  unfold m_append
  split
  · rw [m_sh_upd a hp2, upd_cm (i := p) (by omega), m_ap0_upd hp hp1 hp2]
  · exact m_ap0_upd hp hp1 hp2
/-- the leader's moment is counted before or behind the putting down -/
theorem puts_led {σ : MS} {j : Nat} (hj : j < 8) (hk : kpo σ ≤ 8) : (m_putsT (sA σ 0 (upd (σ.1 0) (25 + j) (σ.1 0 (25 + j) + 1))) (kpo σ)).1 0 = upd ((m_putsT σ (kpo σ)).1 0) (25 + j) ((m_putsT σ (kpo σ)).1 0 (25 + j) + 1) := by
  have e1 : m_leaderNow (sA σ 0 (upd (σ.1 0) (25 + j) (σ.1 0 (25 + j) + 1))) = m_leaderNow σ := by
    show upd (σ.1 0) (25 + j) _ 39 = _
    exact pk_un (by omega)
  have e2 : m_leaderBefore (sA σ 0 (upd (σ.1 0) (25 + j) (σ.1 0 (25 + j) + 1))) (kpo σ) = m_leaderBefore σ (kpo σ) := by
    unfold m_leaderBefore
    by_cases h0 : kpo σ = 0
    · rw [if_pos h0, if_pos h0]
    · rw [if_neg h0, if_neg h0]
      show upd (σ.1 0) (25 + j) _ (68 + kpo σ - 1) = _
      exact pk_un (by omega)
  unfold m_putsT
  rw [e1, e2]
  split
  · rfl
  · show m_append (upd (σ.1 0) (25 + j) _) (kpo σ) = upd (m_append (σ.1 0) (kpo σ)) (25 + j) (m_append (σ.1 0) (kpo σ) (25 + j) + 1)
    rw [m_append_upd (by omega) (by omega) (by omega), m_append_out (by omega) hk]
/-- the runner j has led a moment more -/
theorem TK.led {b h : PH} {t : Nat} {T rc : Nat → Nat} {ru : Nat → Option Nat} {S : Nat → Prop} {a : Nat → Int32} (H : TK b h t T rc ru S a) {j q : Nat} (hj : j < 8) (hq : ru j = some q) : TK b (pu h q (eo 10 [.int (nI j), .int (a (9 + j)), .int (a (17 + j)), .int (a (25 + j) + nI 1)])) t T rc ru S (upd a (25 + j) (a (25 + j) + 1)) := by
  obtain ⟨wn, ot, un, h1, h2, h3⟩ := H
  have T1 := h1.putU hj hq (a' := upd a (25 + j) (a (25 + j) + 1)) (pk_un (by omega)) (pk_un (by omega)) (fun k _ _ _ _ h5 => pk_un h5) (fun k _ _ => pk_un (by omega))
  rw [pk_un (by omega), pk_un (by omega), pk_us] at T1
  exact ⟨wn, ot, un, T1, (h2.keep (Kp.put (h1.cu hj hq) rfl)).row (pk_un (by omega)) (fun k _ _ => pk_un (by omega)), h3.row (fun k hk => pk_un (by omega))⟩
