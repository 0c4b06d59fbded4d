/-! arithmetic of places and speeds: the component's long numbers against the reference's ints -/
set_option maxRecDepth 100000
theorem bm32 {n : Int} (h1 : -2147483648 ≤ n) (h2 : n < 2147483648) : n.bmod (2 ^ 32) = n := Int.bmod_eq_of_le (m := 4294967296) (by omega) (by omega)
theorem bm64 {n : Int} (h1 : -9223372036854775808 ≤ n) (h2 : n < 9223372036854775808) : n.bmod (2 ^ 64) = n := Int.bmod_eq_of_le (m := 18446744073709551616) (by omega) (by omega)
theorem i_sub {x y : Int32} (h1 : -2147483648 ≤ x.toInt - y.toInt) (h2 : x.toInt - y.toInt < 2147483648) : (x - y).toInt = x.toInt - y.toInt := by
  rw [Int32.toInt_sub]
  exact bm32 h1 h2
theorem i_add {x y : Int32} (h1 : -2147483648 ≤ x.toInt + y.toInt) (h2 : x.toInt + y.toInt < 2147483648) : (x + y).toInt = x.toInt + y.toInt := by
  rw [Int32.toInt_add]
  exact bm32 h1 h2
theorem i_mul {x y : Int32} (h1 : -2147483648 ≤ x.toInt * y.toInt) (h2 : x.toInt * y.toInt < 2147483648) : (x * y).toInt = x.toInt * y.toInt := by
  rw [Int32.toInt_mul]
  exact bm32 h1 h2
theorem l_add {x y : Int64} (h1 : -9223372036854775808 ≤ x.toInt + y.toInt) (h2 : x.toInt + y.toInt < 9223372036854775808) : (x + y).toInt = x.toInt + y.toInt := by
  rw [Int64.toInt_add]
  exact bm64 h1 h2
theorem l_sub {x y : Int64} (h1 : -9223372036854775808 ≤ x.toInt - y.toInt) (h2 : x.toInt - y.toInt < 9223372036854775808) : (x - y).toInt = x.toInt - y.toInt := by
  rw [Int64.toInt_sub]
  exact bm64 h1 h2
theorem i_div {x g : Int32} (hx : 0 ≤ x.toInt) (hg : 0 < g.toInt) : (x / g).toInt = x.toInt / g.toInt := by
  rw [Int32.toInt_div_of_ne_right _ _ (fun z => by rw [z] at hg; exact absurd hg (by decide))]
  exact Int.tdiv_eq_ediv_of_nonneg hx
theorem l_div {x g : Int64} (hx : 0 ≤ x.toInt) (hg : 0 < g.toInt) : (x / g).toInt = x.toInt / g.toInt := by
  rw [Int64.toInt_div_of_ne_right _ _ (fun z => by rw [z] at hg; exact absurd hg (by decide))]
  exact Int.tdiv_eq_ediv_of_nonneg hx
theorem i_one : (1 : Int32).toInt = 1 := by decide
theorem l_one : (1 : Int64).toInt = 1 := by decide
theorem i_zero : (0 : Int32).toInt = 0 := by decide
theorem l_zero : (0 : Int64).toInt = 0 := by decide
theorem i_m1 : (-1 : Int32).toInt = -1 := by decide
theorem i_rem0 {x g : Int32} (hx : 0 ≤ x.toInt) (hg : 0 < g.toInt) : x - x / g * g = 0 ↔ x.toInt % g.toInt = 0 := by
  have q := i_div hx hg
  have h3 := Int32.toInt_lt x
  have d := Int.emod_def x.toInt g.toInt
  have d1 := Int.emod_nonneg x.toInt (show g.toInt ≠ 0 by omega)
  have d2 : 0 ≤ g.toInt * (x.toInt / g.toInt) := Int.mul_nonneg (by omega) (Int.ediv_nonneg hx (by omega))
  have e1 : (x / g * g).toInt = g.toInt * (x.toInt / g.toInt) := by
    rw [Int32.toInt_mul, q, Int.mul_comm]
    exact bm32 (by omega) (by omega)
  have e2 : (x - x / g * g).toInt = x.toInt % g.toInt := by
    rw [i_sub (by rw [e1]; omega) (by rw [e1]; omega), e1, d]
  rw [← Int32.toInt_inj, e2, i_zero]
theorem q_int {x g : Int32} {o i : Nat} (hx : 0 ≤ x.toInt) (hx2 : x.toInt ≤ 1000000000) (hg : 0 < g.toInt) (ho : o < 8) (hi : i < 8) : (m_quot x g o i).toInt = if i ≤ o then x.toInt / g.toInt + 1 else (x.toInt + g.toInt - 1) / g.toInt := by
  have q := i_div hx hg
  have q0 : 0 ≤ x.toInt / g.toInt := Int.ediv_nonneg hx (by omega)
  have q1 : x.toInt / g.toInt ≤ x.toInt := Int.ediv_le_self _ hx
  have p1 : (x / g + 1).toInt = x.toInt / g.toInt + 1 := by
    rw [i_add (by rw [q, i_one]; omega) (by rw [q, i_one]; omega), q, i_one]
  have d := Int.emod_def x.toInt g.toInt
  have d1 := Int.emod_nonneg x.toInt (show g.toInt ≠ 0 by omega)
  have d2 := Int.emod_lt_of_pos x.toInt hg
  unfold m_quot
  by_cases hio : i ≤ o
  · rw [if_pos hio, if_pos (nI_le hio (by omega)), ite_self, p1]
  · rw [if_neg hio, if_neg (nI_ge (by omega) (by omega))]
    by_cases hr : x.toInt % g.toInt = 0
    · have z : (g.toInt - 1) / g.toInt = 0 := Int.ediv_eq_zero_of_lt (by omega) (by omega)
      have e : x.toInt + g.toInt - 1 = (g.toInt - 1) + g.toInt * (x.toInt / g.toInt) := by omega
      rw [if_pos ((i_rem0 hx hg).mpr hr), q, e, Int.add_mul_ediv_left _ _ (show g.toInt ≠ 0 by omega), z, Int.zero_add]
    · have e : x.toInt + g.toInt - 1 = (x.toInt % g.toInt - 1) + g.toInt * (x.toInt / g.toInt + 1) := by
        rw [Int.mul_add, Int.mul_one]
        omega
      have z : (x.toInt % g.toInt - 1) / g.toInt = 0 := Int.ediv_eq_zero_of_lt (by omega) (by omega)
      rw [if_neg (fun z => hr ((i_rem0 hx hg).mp z)), p1, e, Int.add_mul_ediv_left _ _ (show g.toInt ≠ 0 by omega), z, Int.zero_add]
theorem q_long {x g : Int32} {o i : Nat} (hx : 0 ≤ x.toInt) (hx2 : x.toInt ≤ 1000000000) (hg : 0 < g.toInt) (ho : o < 8) (hi : i < 8) : (if nI i ≤ nI o then x.toInt64 / g.toInt64 + 1 else (x.toInt64 + g.toInt64 - 1) / g.toInt64) = (m_quot x g o i).toInt64 := by
  have hg3 := Int32.toInt_lt g
  have q : (x.toInt64 / g.toInt64).toInt = x.toInt / g.toInt := by
    rw [l_div (by rw [Int32.toInt_toInt64]; exact hx) (by rw [Int32.toInt_toInt64]; exact hg), Int32.toInt_toInt64, Int32.toInt_toInt64]
  have q0 : 0 ≤ x.toInt / g.toInt := Int.ediv_nonneg hx (by omega)
  have q1 : x.toInt / g.toInt ≤ x.toInt := Int.ediv_le_self _ hx
  rw [← Int64.toInt_inj, Int32.toInt_toInt64, q_int hx hx2 hg ho hi]
  by_cases hio : i ≤ o
  · rw [if_pos hio, if_pos (nI_le hio (by omega)), l_add (by rw [q, l_one]; omega) (by rw [q, l_one]; omega), q, l_one]
  · rw [if_neg hio, if_neg (nI_ge (by omega) (by omega))]
    have s1 : (x.toInt64 + g.toInt64).toInt = x.toInt + g.toInt := by
      rw [l_add (by rw [Int32.toInt_toInt64, Int32.toInt_toInt64]; omega) (by rw [Int32.toInt_toInt64, Int32.toInt_toInt64]; omega), Int32.toInt_toInt64, Int32.toInt_toInt64]
    have s2 : (x.toInt64 + g.toInt64 - 1).toInt = x.toInt + g.toInt - 1 := by
      rw [l_sub (by rw [s1, l_one]; omega) (by rw [s1, l_one]; omega), s1, l_one]
    rw [l_div (by rw [s2]; omega) (by rw [Int32.toInt_toInt64]; exact hg), s2, Int32.toInt_toInt64]
theorem q_bd {x g : Int32} {o i : Nat} (hx : 0 ≤ x.toInt) (hx2 : x.toInt ≤ 1000000000) (hg : 0 < g.toInt) (ho : o < 8) (hi : i < 8) : 0 ≤ (m_quot x g o i).toInt ∧ (m_quot x g o i).toInt ≤ x.toInt + 1 := by
  rw [q_int hx hx2 hg ho hi]
  have q0 : 0 ≤ x.toInt / g.toInt := Int.ediv_nonneg hx (by omega)
  have q1 : x.toInt / g.toInt ≤ x.toInt := Int.ediv_le_self _ hx
  split
  · exact ⟨by omega, by omega⟩
  · refine ⟨Int.ediv_nonneg (by omega) (by omega), ?_⟩
    have e : x.toInt + g.toInt - 1 = (x.toInt - 1) + g.toInt * 1 := by omega
    rw [e, Int.add_mul_ediv_left _ _ (by omega)]
    by_cases h0 : x.toInt = 0
    · rw [h0]
      have : ((0 : Int) - 1) / g.toInt < 0 := Int.ediv_neg_of_neg_of_pos (by omega) hg
      omega
    · have := Int.ediv_le_self (a := x.toInt - 1) g.toInt (by omega)
      omega
theorem i_ltz {x y : Int32} (hx : -1000000000 ≤ x.toInt ∧ x.toInt ≤ 1000000000) (hy : -1000000000 ≤ y.toInt ∧ y.toInt ≤ 1000000000) : 0 < x - y ↔ y < x := by
  rw [Int32.lt_iff_toInt_lt, Int32.lt_iff_toInt_lt, i_sub (by omega) (by omega), i_zero]
  omega
theorem sub_0 {x y : Int32} : x - y = 0 ↔ x = y := by
  constructor
  · intro h
    have : x - y + y = 0 + y := by rw [h]
    rwa [Int32.sub_add_cancel, Int32.zero_add] at this
  · rintro rfl
    exact Int32.sub_self x
theorem k_ahead_m {x y : Int32} {i j : Nat} (hx : -1000000000 ≤ x.toInt ∧ x.toInt ≤ 1000000000) (hy : -1000000000 ≤ y.toInt ∧ y.toInt ≤ 1000000000) : k_ahead x (nI i) y (nI j) = if 0 < x - y then 1 else if x - y = 0 then (if nI j ≤ nI i then 0 else 1) else 0 := by
  unfold k_ahead
  by_cases h1 : y < x
  · rw [if_pos h1, if_pos ((i_ltz hx hy).mpr h1)]
    rfl
  · rw [if_neg h1, if_neg (fun z => h1 ((i_ltz hx hy).mp z))]
    by_cases h2 : x = y
    · rw [if_pos h2, if_pos (sub_0.mpr h2)]
      rfl
    · rw [if_neg h2, if_neg (fun z => h2 (sub_0.mp z))]
      rfl
theorem gt_l {x : Int32} : 0 < lg_cmp x.toInt64 0 ↔ 0 < x.toInt := by
  rw [lg_cmp_gt0, Int64.lt_iff_toInt_lt, Int32.toInt_toInt64, l_zero]
theorem gt_i {x : Int32} : 0 < x ↔ 0 < x.toInt := by
  rw [Int32.lt_iff_toInt_lt, i_zero]
/-- how long the leader w stays ahead of o -/
theorem k_lasts_m {pw sw po so : Int32} {w o : Nat} (hw : w < 8) (ho : o < 8) (h1 : 0 ≤ (pw - po).toInt) (h2 : (pw - po).toInt ≤ 1000000000) : k_lasts pw (nI w) sw po (nI o) so = if 0 < so - sw then (m_quot (pw - po) (so - sw) o w).toInt64 else 9223372036854775807 := by
  unfold k_lasts
  by_cases hg : 0 < (so - sw).toInt
  · rw [if_pos (gt_l.mpr hg), if_pos (gt_i.mpr hg)]
    exact q_long h1 h2 hg ho hw
  · rw [if_neg (fun z => hg (gt_l.mp z)), if_neg (fun z => hg (gt_i.mp z))]
theorem lg_cmp_0 {x y : Int64} : lg_cmp x y = 0 ↔ x = y := by
  unfold lg_cmp
  by_cases h1 : x > y
  · rw [if_pos h1]
    constructor
    · intro h; exact absurd h (by decide)
    · rintro rfl
      have := Int64.lt_iff_toInt_lt.mp h1
      omega
  · rw [if_neg h1]
    by_cases h2 : x = y
    · rw [if_pos h2]
      exact ⟨fun _ => h2, fun _ => rfl⟩
    · rw [if_neg h2]
      exact ⟨fun h => absurd h (by decide), fun h => absurd h h2⟩
def uu (x : Int32) : Int64 := if x = -1 then 9223372036854775807 else x.toInt64
theorem uu_m1 : uu (-1) = 9223372036854775807 := if_pos rfl
theorem uu_n {x : Int32} (h : ¬ x = -1) : uu x = x.toInt64 := if_neg h
theorem ever_ne (x : Int32) : ¬ x.toInt64 = 9223372036854775807 := fun z => by
  have h := congrArg Int64.toInt z
  rw [Int32.toInt_toInt64] at h
  have h2 := Int32.toInt_lt x
  have h3 : (9223372036854775807 : Int64).toInt = 9223372036854775807 := by decide
  omega
theorem i64_inj {x y : Int32} (h : x.toInt64 = y.toInt64) : x = y := by
  have := congrArg Int64.toInt h
  rw [Int32.toInt_toInt64, Int32.toInt_toInt64] at this
  exact Int32.toInt_inj.mp this
theorem uu_inj {x y : Int32} (h : uu x = uu y) : x = y := by
  unfold uu at h
  by_cases h1 : x = -1
  · rw [if_pos h1] at h
    by_cases h2 : y = -1
    · rw [h1, h2]
    · rw [if_neg h2] at h
      exact absurd h.symm (ever_ne y)
  · rw [if_neg h1] at h
    by_cases h2 : y = -1
    · rw [if_pos h2] at h
      exact absurd h (ever_ne x)
    · rw [if_neg h2] at h
      exact i64_inj h
theorem k_until_m {pw sw po so tm : Int32} {w o : Nat} (hw : w < 8) (ho : o < 8) (h1 : 0 ≤ (pw - po).toInt) (h2 : (pw - po).toInt ≤ 1000000000) (ht : 0 ≤ tm.toInt ∧ tm.toInt ≤ 9000) :
    k_until (k_lasts pw (nI w) sw po (nI o) so) tm = uu (if (if 0 < so - sw then m_quot (pw - po) (so - sw) o w else -1) = -1 then -1 else tm + (if 0 < so - sw then m_quot (pw - po) (so - sw) o w else -1)) := by
  rw [k_lasts_m hw ho h1 h2]
  unfold k_until
  by_cases hg : 0 < so - sw
  · rw [if_pos hg, if_pos hg]
    obtain ⟨b1, b2⟩ := q_bd h1 h2 (gt_i.mp hg) ho hw
    have hn : ¬ m_quot (pw - po) (so - sw) o w = -1 := fun z => by
      rw [z, i_m1] at b1
      omega
    have ea : (tm + m_quot (pw - po) (so - sw) o w).toInt = tm.toInt + (m_quot (pw - po) (so - sw) o w).toInt := i_add (by omega) (by omega)
    have hn2 : ¬ tm + m_quot (pw - po) (so - sw) o w = -1 := fun z => by
      rw [z, i_m1] at ea
      omega
    rw [if_neg (fun z => ever_ne _ (lg_cmp_0.mp z)), if_neg hn, uu_n hn2, ← Int64.toInt_inj, Int32.toInt_toInt64, ea, l_add (by rw [Int32.toInt_toInt64, Int32.toInt_toInt64]; omega) (by rw [Int32.toInt_toInt64, Int32.toInt_toInt64]; omega), Int32.toInt_toInt64, Int32.toInt_toInt64]
  · rw [if_neg hg, if_neg hg, if_pos rfl, uu_m1, if_pos (lg_cmp_0.mpr rfl)]
