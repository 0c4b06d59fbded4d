/-! printed by gen/modelm.py -/
set_option maxRecDepth 100000
theorem q1889 : (Jvm.Cond.methodLink "LeadRacesModel" (75 : Nat) ({ cls := "LeadRacesModel", name := "isLane", desc := "(I)Z" } : Jvm.MethodName)) ∈ lw_all := lw_g (lw_at lw_m8 141 rfl) rfl
theorem q1890 : (Jvm.Cond.static ({ cls := "LeadRacesModel", name := "isLane", desc := "(I)Z" } : Jvm.MethodName)) ∈ lw_all := lw_g (lw_at lw_m8 142 rfl) rfl
theorem q1891 : (Jvm.Cond.code ({ cls := "LeadRacesModel", name := "isLane", desc := "(I)Z" } : Jvm.MethodName) prog_12_method_7_code (1 : Nat) (Option.some Jvm.ClassFile.FieldType.boolean)) ∈ lw_all := lw_g (lw_at lw_m8 143 rfl) rfl
theorem q1896 : (Jvm.Cond.constantLong "LeadRacesModel" (78 : Nat) (-9999 : Int64)) ∈ lw_all := lw_g (lw_at lw_m8 148 rfl) rfl
theorem q1897 : (Jvm.Cond.constantLong "LeadRacesModel" (80 : Nat) (9999 : Int64)) ∈ lw_all := lw_g (lw_at lw_m8 149 rfl) rfl
theorem q1898 : (Jvm.Cond.methodLink "LeadRacesModel" (82 : Nat) ({ cls := "LeadRacesModel", name := "isSpeed", desc := "(I)Z" } : Jvm.MethodName)) ∈ lw_all := lw_g (lw_at lw_m8 150 rfl) rfl
theorem q1899 : (Jvm.Cond.static ({ cls := "LeadRacesModel", name := "isSpeed", desc := "(I)Z" } : Jvm.MethodName)) ∈ lw_all := lw_g (lw_at lw_m8 151 rfl) rfl
theorem q1900 : (Jvm.Cond.code ({ cls := "LeadRacesModel", name := "isSpeed", desc := "(I)Z" } : Jvm.MethodName) prog_12_method_8_code (1 : Nat) (Option.some Jvm.ClassFile.FieldType.boolean)) ∈ lw_all := lw_g (lw_at lw_m8 152 rfl) rfl
theorem q1903 : (Jvm.Cond.constant "LeadRacesModel" (28 : Nat) (-10000001 : Int32)) ∈ lw_all := lw_g (lw_at lw_m8 155 rfl) rfl
theorem q1908 : (Jvm.Cond.constant "LeadRacesModel" (85 : Nat) (-10000002 : Int32)) ∈ lw_all := lw_g (lw_at lw_m8 160 rfl) rfl
theorem q1909 : (Jvm.Cond.methodLink "LeadRacesModel" (86 : Nat) ({ cls := "LeadRacesModel", name := "runsFor", desc := "(I)Z" } : Jvm.MethodName)) ∈ lw_all := lw_g (lw_at lw_m8 161 rfl) rfl
theorem q1911 : (Jvm.Cond.instanceMethod ({ cls := "LeadRacesModel", name := "runsFor", desc := "(I)Z" } : Jvm.MethodName)) ∈ lw_all := lw_g (lw_at lw_m8 163 rfl) rfl
theorem q1912 : (Jvm.Cond.code ({ cls := "LeadRacesModel", name := "runsFor", desc := "(I)Z" } : Jvm.MethodName) prog_12_method_19_code (5 : Nat) (Option.some Jvm.ClassFile.FieldType.boolean)) ∈ lw_all := lw_g (lw_at lw_m8 164 rfl) rfl
theorem q1957 : (Jvm.Cond.methodLink "LeadRacesModel" (89 : Nat) ({ cls := "LeadRacesModel", name := "runners", desc := "()I" } : Jvm.MethodName)) ∈ lw_all := lw_g (lw_at lw_m8 209 rfl) rfl
theorem q1959 : (Jvm.Cond.instanceMethod ({ cls := "LeadRacesModel", name := "runners", desc := "()I" } : Jvm.MethodName)) ∈ lw_all := lw_g (lw_at lw_m8 211 rfl) rfl
theorem q1960 : (Jvm.Cond.code ({ cls := "LeadRacesModel", name := "runners", desc := "()I" } : Jvm.MethodName) prog_12_method_10_code (3 : Nat) (Option.some Jvm.ClassFile.FieldType.int)) ∈ lw_all := lw_g (lw_at lw_m8 212 rfl) rfl
theorem q1977 : (Jvm.Cond.constantLong "LeadRacesModel" (92 : Nat) (-999 : Int64)) ∈ lw_all := lw_g (lw_at lw_m8 229 rfl) rfl
theorem q1978 : (Jvm.Cond.constantLong "LeadRacesModel" (94 : Nat) (999 : Int64)) ∈ lw_all := lw_g (lw_at lw_m8 230 rfl) rfl
theorem q1979 : (Jvm.Cond.constantLong "LeadRacesModel" (96 : Nat) (-1000000 : Int64)) ∈ lw_all := lw_g (lw_at lw_m8 231 rfl) rfl
theorem q1980 : (Jvm.Cond.constantLong "LeadRacesModel" (98 : Nat) (1000000 : Int64)) ∈ lw_all := lw_g (lw_at lw_m8 232 rfl) rfl
theorem q1981 : (Jvm.Cond.constant "LeadRacesModel" (100 : Nat) (-10000003 : Int32)) ∈ lw_all := lw_g (lw_at lw_m8 233 rfl) rfl
/-! the reference's changes as they are done -/
theorem pm_of {h0 : PH} {m : Nat} {ar : Nat → Nat} {q : Int32 × MS} {x : Int32} {τ : MS} (e : q = (x, τ)) : PM h0 m ar (some (.int q.1)) q.2 (some (.int x)) (mh h0 m ar τ) := by
  subst e
  exact ⟨rfl, rfl⟩
theorem lg_cmp_lt0 {x y : Int64} : lg_cmp x y < 0 ↔ x < y := by
  unfold lg_cmp
  by_cases h1 : x > y
  · rw [if_pos h1]
    constructor
    · intro h; exact absurd h (by decide)
    · intro h
      have e1 := Int64.lt_iff_toInt_lt.mp h
      have e2 := Int64.lt_iff_toInt_lt.mp h1
      omega
  · rw [if_neg h1]
    by_cases h2 : x = y
    · rw [if_pos h2, h2]
      constructor
      · intro h; exact absurd h (by decide)
      · intro h; rw [Int64.lt_iff_toInt_lt] at h; omega
    · rw [if_neg h2]
      constructor
      · intro _
        rw [Int64.lt_iff_toInt_lt]
        have h3 : x.toInt ≠ y.toInt := fun z => h2 (Int64.toInt_inj.mp z)
        have h4 : ¬ y.toInt < x.toInt := fun z => h1 (Int64.lt_iff_toInt_lt.mpr z)
        omega
      · intro _; decide
theorem lg_cmp_gt0 {x y : Int64} : 0 < lg_cmp x y ↔ y < x := by
  unfold lg_cmp
  by_cases h1 : x > y
  · rw [if_pos h1]
    constructor
    · intro _; exact h1
    · intro _; decide
  · rw [if_neg h1]
    constructor
    · intro h
      by_cases h2 : x = y
      · rw [if_pos h2] at h; exact absurd h (by decide)
      · rw [if_neg h2] at h; exact absurd h (by decide)
    · intro h; exact absurd h h1
theorem m_in_iff {v lo hi : Int64} : ¬ m_in v lo hi = 0 ↔ lo.toInt ≤ v.toInt ∧ v.toInt ≤ hi.toInt := by
  unfold m_in
  by_cases h1 : lg_cmp v lo < 0
  · rw [if_pos h1]
    rw [lg_cmp_lt0, Int64.lt_iff_toInt_lt] at h1
    constructor
    · intro h; exact absurd rfl h
    · intro h; omega
  · rw [if_neg h1]
    rw [lg_cmp_lt0, Int64.lt_iff_toInt_lt] at h1
    by_cases h2 : 0 < lg_cmp v hi
    · rw [if_pos h2]
      rw [lg_cmp_gt0, Int64.lt_iff_toInt_lt] at h2
      constructor
      · intro h; exact absurd rfl h
      · intro h; omega
    · rw [if_neg h2]
      rw [lg_cmp_gt0, Int64.lt_iff_toInt_lt] at h2
      constructor
      · intro _; omega
      · intro _; decide
def ln (x : Int32) : Option Nat := if m_isLane x = 0 then none else some x.toNatClampNeg
theorem m_isLane_iff {x : Int32} : ¬ m_isLane x = 0 ↔ 0 ≤ x.toInt ∧ x.toInt ≤ 7 := by
  unfold m_isLane
  rw [m_in_iff, Int32.toInt_toInt64]
  exact Iff.rfl
theorem ln_none {x : Int32} (h : ln x = none) : m_isLane x = 0 := by
  unfold ln at h
  by_cases h1 : m_isLane x = 0
  · exact h1
  · rw [if_neg h1] at h; cases h
theorem ln_some {x : Int32} {j : Nat} (h : ln x = some j) : j < 8 ∧ x = nI j := by
  unfold ln at h
  by_cases h1 : m_isLane x = 0
  · rw [if_pos h1] at h; cases h
  · rw [if_neg h1] at h
    obtain ⟨h2, h3⟩ := m_isLane_iff.mp h1
    obtain ⟨i, hi, rfl⟩ := nI_of (x := x) (by rw [Int32.lt_iff_toInt_lt, Int32.toInt_zero]; omega)
    rw [nI_toInt hi] at h2 h3
    rw [nI_clamp hi] at h
    cases h
    exact ⟨by omega, rfl⟩
theorem m_isLane_in {j : Nat} (h : j < 8) : m_isLane (nI j) = nI 1 := by
  have h1 : ¬ m_isLane (nI j) = 0 := m_isLane_iff.mpr (by rw [nI_toInt (by omega)]; omega)
  exact (m_in_B _ _ _).resolve_left h1
/-- the row is changed below 33 alone -/
theorem WF.low {σ : MS} (h : WF σ) {f : Nat → Int32} (e : ∀ j, 33 ≤ j → f j = σ.1 0 j) : WF (sA σ 0 f) := by
  refine ⟨fun r hr => ?_, ?_⟩
  · show isL (f (33 + r))
    rw [e _ (by omega)]
    exact h.1 r hr
  · obtain ⟨-, kp, hk, e2⟩ := h
    exact ⟨kp, hk, (e 84 (by omega)).trans e2⟩
def m_comeA (a : Nat → Int32) (j : Nat) (p s : Int32) : Nat → Int32 := upd (upd (upd (upd a (1 + j) 1) (9 + j) p) (17 + j) s) (25 + j) 0
theorem WF.comeA {σ : MS} (h : WF σ) {j : Nat} (hj : j < 8) (p s : Int32) : WF (sA σ 0 (m_comeA (σ.1 0) j p s)) := h.low (fun i hi => by
  unfold m_comeA
  rw [pk_un (by omega), pk_un (by omega), pk_un (by omega), pk_un (by omega)])
def m_come1 (σ : MS) (j : Nat) (p s : Int32) : Int32 × MS := if m_in p.toInt64 (-9999) 9999 = 0 then (-10000001, σ) else if m_isSpeed s = 0 then (-10000001, σ) else if m_has σ j = 0 then (m_leaderNow (m_forT (sA σ 0 (m_comeA (σ.1 0) j p s)) j), m_forT (sA σ 0 (m_comeA (σ.1 0) j p s)) j) else (-10000002, σ)
def m_come (σ : MS) (x p s : Int32) : Int32 × MS := match ln x with
  | none => (-10000001, σ)
  | some j => m_come1 σ j p s
def m_go1 (σ : MS) (j : Nat) : Int32 × MS := if m_has σ j = 0 then (-10000002, σ) else (m_runners (m_forT (sA σ 0 (upd (σ.1 0) (1 + j) 0)) j), m_forT (sA σ 0 (upd (σ.1 0) (1 + j) 0)) j)
def m_go (σ : MS) (x : Int32) : Int32 × MS := match ln x with
  | none => (-10000001, σ)
  | some j => m_go1 σ j
def m_speed1 (σ : MS) (j : Nat) (s : Int32) : Int32 × MS := if m_isSpeed s = 0 then (-10000001, σ) else if m_has σ j = 0 then (-10000002, σ) else (σ.1 0 (17 + j), m_forT (sA σ 0 (upd (σ.1 0) (17 + j) s)) j)
def m_speed (σ : MS) (x s : Int32) : Int32 × MS := match ln x with
  | none => (-10000001, σ)
  | some j => m_speed1 σ j s
def m_jump1 (σ : MS) (j : Nat) (w : Int32) : Int32 × MS := if m_in w.toInt64 (-999) 999 = 0 then (-10000001, σ) else if m_has σ j = 0 then (-10000002, σ) else if m_in (σ.1 0 (9 + j) + w).toInt64 (-1000000) 1000000 = 0 then (-10000003, σ) else (m_leaderNow (m_forT (sA σ 0 (upd (σ.1 0) (9 + j) (σ.1 0 (9 + j) + w))) j), m_forT (sA σ 0 (upd (σ.1 0) (9 + j) (σ.1 0 (9 + j) + w))) j)
def m_jump (σ : MS) (x w : Int32) : Int32 × MS := match ln x with
  | none => (-10000001, σ)
  | some j => m_jump1 σ j w
def m_it (σ : MS) : Nat → Int32 × MS
  | 0 => (0, σ)
  | i + 1 => ((m_it σ i).1 + (if m_byR (m_it σ i).2 = 0 then 0 else 1), m_byT (m_it σ i).2)
theorem m_it_s (σ : MS) (i : Nat) : m_it σ (i + 1) = ((m_it σ i).1 + (if m_byR (m_it σ i).2 = 0 then 0 else 1), m_byT (m_it σ i).2) := by rw [m_it]
theorem m_it_1 (σ : MS) (i : Nat) : (m_it σ (i + 1)).1 = (m_it σ i).1 + (if m_byR (m_it σ i).2 = 0 then 0 else 1) := by rw [m_it_s]
theorem m_it_2 (σ : MS) (i : Nat) : (m_it σ (i + 1)).2 = m_byT (m_it σ i).2 := by rw [m_it_s]
theorem WF.it {σ : MS} (h : WF σ) (i : Nat) : WF (m_it σ i).2 := by
  induction i with
  | zero => rw [m_it]; exact h
  | succ i ih => rw [m_it_2]; exact ih.byT
def m_pause (σ : MS) (x : Int32) : Int32 × MS := if m_in x.toInt64 1 500 = 0 then (-10000001, σ) else if σ.1 0 0 + x ≤ nI 9000 then m_it σ x.toNatClampNeg else (-10000003, σ)
theorem m_in_1_500 {x : Int32} (h : ¬ m_in x.toInt64 1 500 = 0) : ∃ mm : Nat, 1 ≤ mm ∧ mm ≤ 500 ∧ x = nI mm := by
  rw [m_in_iff, Int32.toInt_toInt64] at h
  have h1 : (1 : Int64).toInt = 1 := by decide
  have h2 : (500 : Int64).toInt = 500 := by decide
  rw [h1, h2] at h
  obtain ⟨i, hi, rfl⟩ := nI_of (x := x) (by rw [Int32.lt_iff_toInt_lt, Int32.toInt_zero]; omega)
  rw [nI_toInt hi] at h
  exact ⟨i, by omega, by omega, rfl⟩
abbrev cX3_doCome : ByteArray := prog_12_method_21_code
def yX3_doCome : MethodName := ⟨RX3, "doCome", "(III)I"⟩
theorem tX3_doCome : dtab cX3_doCome [(0, .iload_n 1, 1, 1), (1, .invokestatic 75, 3, 4), (4, .ifCond .eq 24, 3, 7), (7, .iload_n 2, 1, 8), (8, .i2l, 1, 9), (9, .ldc2_w 78, 3, 12), (12, .ldc2_w 80, 3, 15), (15, .invokestatic 35, 3, 18), (18, .ifCond .eq 10, 3, 21), (21, .iload_n 3, 1, 22), (22, .invokestatic 82, 3, 25), (25, .ifCond .ne 6, 3, 28), (28, .ldc 28, 2, 30), (30, .ireturn, 1, 31), (31, .aload_n 0, 1, 32), (32, .iload_n 1, 1, 33), (33, .invokevirtual 47, 3, 36), (36, .ifCond .eq 6, 3, 39), (39, .ldc 85, 2, 41), (41, .ireturn, 1, 42), (42, .aload_n 0, 1, 43), (43, .getfield 7, 3, 46), (46, .iconst 1, 1, 47), (47, .iload_n 1, 1, 48), (48, .iadd, 1, 49), (49, .iconst 1, 1, 50), (50, .iastore, 1, 51), (51, .aload_n 0, 1, 52), (52, .getfield 7, 3, 55), (55, .bipush 9, 2, 57), (57, .iload_n 1, 1, 58), (58, .iadd, 1, 59), (59, .iload_n 2, 1, 60), (60, .iastore, 1, 61), (61, .aload_n 0, 1, 62), (62, .getfield 7, 3, 65), (65, .bipush 17, 2, 67), (67, .iload_n 1, 1, 68), (68, .iadd, 1, 69), (69, .iload_n 3, 1, 70), (70, .iastore, 1, 71), (71, .aload_n 0, 1, 72), (72, .getfield 7, 3, 75), (75, .bipush 25, 2, 77), (77, .iload_n 1, 1, 78), (78, .iadd, 1, 79), (79, .iconst 0, 1, 80), (80, .iastore, 1, 81), (81, .aload_n 0, 1, 82), (82, .iload_n 1, 1, 83), (83, .invokevirtual 86, 3, 86), (86, .istore 4, 2, 88), (88, .aload_n 0, 1, 89), (89, .invokevirtual 61, 3, 92), (92, .ireturn, 1, 93)] := by unfold dtab; decide +kernel
theorem okX3_doCome : okY yX3_doCome 3 := by decide +kernel
set_option maxHeartbeats 4000000 in
theorem c_doCome (l : Launch) (D : va_G) {h0 : PH} {m : Nat} {ar : Nat → Nat} (hd : md m ar) (σ : MS) (x : Int32) (p : Int32) (s : Int32) (hW : WF σ) : Ct l D yX3_doCome cX3_doCome 5 (some .int) (rmM 4 99) [.ref m, .int x, .int p, .int s] (mh h0 m ar σ) (PM h0 m ar (some (.int ((m_come σ x p s).1))) ((m_come σ x p s).2)) := by
  refine Ct.of (by decide) rfl (fun Γ X rr hmn => ?_)
  have X : Cx l D cX3_doCome RX3 5 (rmM 4 99) Γ := X
  show J Γ (mh h0 m ar σ) 0 0 0 [(0, .ref m), (1, .int x), (2, .int p), (3, .int s)] []
  cases hl : ln x with
  | none =>
    refine J_iload_n X (dt tX3_doCome 0 rfl) 1 rfl ?_
    refine S_callS (rest := []) X (dt tX3_doCome 1 rfl) (c_isLane l D _ x ) (lw_S q1889 q1890 q86 q1891) okX3_isLane rfl ⟨Nat.le_of_ble_eq_true rfl, Nat.le_of_ble_eq_true rfl⟩ rfl (Nat.le_of_ble_eq_true rfl) (Nat.zero_le _) (Nat.zero_le _) ?_
    refine J_topi (ln_none hl) ?_
    refine J_if_eq X 28 (dt tX3_doCome 2 rfl) (by decide) (fun _ => ?_) (fun c9 => absurd (rfl) c9)
    refine J_ldc X (dt tX3_doCome 12 rfl) q1903 ?_
    exact J_iret X rr (dt tX3_doCome 13 rfl) (Nat.zero_le _) (Nat.zero_le _) (pm_of (by unfold m_come; rw [hl]))
  | some j =>
    obtain ⟨hj, rfl⟩ := ln_some hl
    refine J_iload_n X (dt tX3_doCome 0 rfl) 1 rfl ?_
    refine S_callS (rest := []) X (dt tX3_doCome 1 rfl) (c_isLane l D _ (nI j) ) (lw_S q1889 q1890 q86 q1891) okX3_isLane rfl ⟨Nat.le_of_ble_eq_true rfl, Nat.le_of_ble_eq_true rfl⟩ rfl (Nat.le_of_ble_eq_true rfl) (Nat.zero_le _) (Nat.zero_le _) ?_
    refine J_topi (m_isLane_in hj) ?_
    refine J_if_eq X 28 (dt tX3_doCome 2 rfl) (by decide) (fun c9 => absurd c9 ((by decide))) (fun _ => ?_)
    refine J_iload_n X (dt tX3_doCome 3 rfl) 2 rfl ?_
    refine J_i2l X (dt tX3_doCome 4 rfl) ?_
    refine J_ldc2 X (dt tX3_doCome 5 rfl) q1896 ?_
    refine J_ldc2 X (dt tX3_doCome 6 rfl) q1897 ?_
    refine S_callS (rest := []) X (dt tX3_doCome 7 rfl) (c_in l D _ p.toInt64 (-9999) (9999) ) (lw_S q1893 q1894 q86 q1895) okX3_in rfl ⟨Nat.le_of_ble_eq_true rfl, Nat.le_of_ble_eq_true rfl⟩ rfl (Nat.le_of_ble_eq_true rfl) (Nat.zero_le _) (Nat.zero_le _) ?_
    refine J_if_eq X 28 (dt tX3_doCome 8 rfl) (by decide) (fun c1 => ?_) (fun c1 => ?_)
    · refine J_ldc X (dt tX3_doCome 12 rfl) q1903 ?_
      exact J_iret X rr (dt tX3_doCome 13 rfl) (Nat.zero_le _) (Nat.zero_le _) (pm_of (by unfold m_come; rw [hl]; exact if_pos c1))
    · refine J_iload_n X (dt tX3_doCome 9 rfl) 3 rfl ?_
      refine S_callS (rest := []) X (dt tX3_doCome 10 rfl) (c_isSpeed l D _ s ) (lw_S q1898 q1899 q86 q1900) okX3_isSpeed rfl ⟨Nat.le_of_ble_eq_true rfl, Nat.le_of_ble_eq_true rfl⟩ rfl (Nat.le_of_ble_eq_true rfl) (Nat.zero_le _) (Nat.zero_le _) ?_
      refine J_if_ne X 31 (dt tX3_doCome 11 rfl) (by decide) (fun c2 => ?_) (fun c2 => ?_)
      · refine J_aload_n X (dt tX3_doCome 14 rfl) 0 rfl ?_
        refine J_iload_n X (dt tX3_doCome 15 rfl) 1 rfl ?_
        refine M_callV (rest := []) X (dt tX3_doCome 16 rfl) (c_has l D hd σ j (by omega)) (lw_V q1904 q1906 qs38 q86 q1907) okX3_has rfl rfl ⟨Nat.le_of_ble_eq_true rfl, Nat.le_of_ble_eq_true rfl⟩ rfl (Nat.le_of_ble_eq_true rfl) (Nat.zero_le _) (Nat.zero_le _) ?_
        refine J_if_eq X 42 (dt tX3_doCome 17 rfl) (by decide) (fun c3 => ?_) (fun c3 => ?_)
        · refine J_aload_n X (dt tX3_doCome 20 rfl) 0 rfl ?_
          refine M_get_all X (dt tX3_doCome 21 rfl) ?_
          refine J_iconst X (nI 1) (dt tX3_doCome 22 rfl) (by decide) ?_
          refine J_iload_n X (dt tX3_doCome 23 rfl) 1 rfl ?_
          refine J_iaddN X (dt tX3_doCome 24 rfl) ?_
          refine J_iconst X (nI 1) (dt tX3_doCome 25 rfl) (by decide) ?_
          refine M_ast_all X hd (dt tX3_doCome 26 rfl) (by omega) ?_
          refine J_aload_n X (dt tX3_doCome 27 rfl) 0 rfl ?_
          refine M_get_all X (dt tX3_doCome 28 rfl) ?_
          refine J_bipush X (nI 9) (dt tX3_doCome 29 rfl) (by decide) ?_
          refine J_iload_n X (dt tX3_doCome 30 rfl) 1 rfl ?_
          refine J_iaddN X (dt tX3_doCome 31 rfl) ?_
          refine J_iload_n X (dt tX3_doCome 32 rfl) 2 rfl ?_
          refine M_ast_all X hd (dt tX3_doCome 33 rfl) (by omega) ?_
          refine J_heap (h2 := mh h0 m ar (sA σ 0 (upd (upd (σ.1 0) (1 + j) (nI 1)) (9 + j) p))) (congrArg (mh h0 m ar) (sA_sA _ _ _ _)) ?_
          refine J_aload_n X (dt tX3_doCome 34 rfl) 0 rfl ?_
          refine M_get_all X (dt tX3_doCome 35 rfl) ?_
          refine J_bipush X (nI 17) (dt tX3_doCome 36 rfl) (by decide) ?_
          refine J_iload_n X (dt tX3_doCome 37 rfl) 1 rfl ?_
          refine J_iaddN X (dt tX3_doCome 38 rfl) ?_
          refine J_iload_n X (dt tX3_doCome 39 rfl) 3 rfl ?_
          refine M_ast_all X hd (dt tX3_doCome 40 rfl) (by omega) ?_
          refine J_heap (h2 := mh h0 m ar (sA σ 0 (upd (upd (upd (σ.1 0) (1 + j) (nI 1)) (9 + j) p) (17 + j) s))) (congrArg (mh h0 m ar) (sA_sA _ _ _ _)) ?_
          refine J_aload_n X (dt tX3_doCome 41 rfl) 0 rfl ?_
          refine M_get_all X (dt tX3_doCome 42 rfl) ?_
          refine J_bipush X (nI 25) (dt tX3_doCome 43 rfl) (by decide) ?_
          refine J_iload_n X (dt tX3_doCome 44 rfl) 1 rfl ?_
          refine J_iaddN X (dt tX3_doCome 45 rfl) ?_
          refine J_iconst X (nI 0) (dt tX3_doCome 46 rfl) (by decide) ?_
          refine M_ast_all X hd (dt tX3_doCome 47 rfl) (by omega) ?_
          refine J_heap (h2 := mh h0 m ar (sA σ 0 (upd (upd (upd (upd (σ.1 0) (1 + j) (nI 1)) (9 + j) p) (17 + j) s) (25 + j) (nI 0)))) (congrArg (mh h0 m ar) (sA_sA _ _ _ _)) ?_
          refine J_aload_n X (dt tX3_doCome 48 rfl) 0 rfl ?_
          refine J_iload_n X (dt tX3_doCome 49 rfl) 1 rfl ?_
          refine M_callV (rest := []) X (dt tX3_doCome 50 rfl) (c_runsFor l D hd (sA σ 0 (upd (upd (upd (upd (σ.1 0) (1 + j) (nI 1)) (9 + j) p) (17 + j) s) (25 + j) (nI 0))) j (by omega) (hW.comeA hj p s)) (lw_V q1909 q1911 qs39 q86 q1912) okX3_runsFor rfl rfl ⟨Nat.le_of_ble_eq_true rfl, Nat.le_of_ble_eq_true rfl⟩ rfl (Nat.le_of_ble_eq_true rfl) (Nat.zero_le _) (Nat.zero_le _) ?_
          refine J_istore X (lv2 := [(4, .int (m_forR (sA σ 0 (upd (upd (upd (upd (σ.1 0) (1 + j) (nI 1)) (9 + j) p) (17 + j) s) (25 + j) (nI 0))) j)), (0, .ref m), (1, .int (nI j)), (2, .int p), (3, .int s)]) (dt tX3_doCome 51 rfl) rfl rfl ?_
          refine J_aload_n X (dt tX3_doCome 52 rfl) 1 rfl ?_
          refine M_callV (rest := []) X (dt tX3_doCome 53 rfl) (c_leaderNow l D hd (m_forT (sA σ 0 (upd (upd (upd (upd (σ.1 0) (1 + j) (nI 1)) (9 + j) p) (17 + j) s) (25 + j) (nI 0))) j) ) (lw_V q1937 q1939 qs46 q86 q1940) okX3_leaderNow rfl rfl ⟨Nat.le_of_ble_eq_true rfl, Nat.le_of_ble_eq_true rfl⟩ rfl (Nat.le_of_ble_eq_true rfl) (Nat.zero_le _) (Nat.zero_le _) ?_
          exact J_iret X rr (dt tX3_doCome 54 rfl) (Nat.zero_le _) (Nat.zero_le _) (pm_of (by unfold m_come; rw [hl]; exact (if_neg c1).trans ((if_neg c2).trans (if_pos c3))))
        · refine J_ldc X (dt tX3_doCome 18 rfl) q1908 ?_
          exact J_iret X rr (dt tX3_doCome 19 rfl) (Nat.zero_le _) (Nat.zero_le _) (pm_of (by unfold m_come; rw [hl]; exact (if_neg c1).trans ((if_neg c2).trans (if_neg c3))))
      · refine J_ldc X (dt tX3_doCome 12 rfl) q1903 ?_
        exact J_iret X rr (dt tX3_doCome 13 rfl) (Nat.zero_le _) (Nat.zero_le _) (pm_of (by unfold m_come; rw [hl]; exact (if_neg c1).trans (if_pos c2)))
abbrev cX3_doGo : ByteArray := prog_12_method_22_code
def yX3_doGo : MethodName := ⟨RX3, "doGo", "(I)I"⟩
theorem tX3_doGo : dtab cX3_doGo [(0, .iload_n 1, 1, 1), (1, .invokestatic 75, 3, 4), (4, .ifCond .ne 6, 3, 7), (7, .ldc 28, 2, 9), (9, .ireturn, 1, 10), (10, .aload_n 0, 1, 11), (11, .iload_n 1, 1, 12), (12, .invokevirtual 47, 3, 15), (15, .ifCond .ne 6, 3, 18), (18, .ldc 85, 2, 20), (20, .ireturn, 1, 21), (21, .aload_n 0, 1, 22), (22, .getfield 7, 3, 25), (25, .iconst 1, 1, 26), (26, .iload_n 1, 1, 27), (27, .iadd, 1, 28), (28, .iconst 0, 1, 29), (29, .iastore, 1, 30), (30, .aload_n 0, 1, 31), (31, .iload_n 1, 1, 32), (32, .invokevirtual 86, 3, 35), (35, .istore_n 2, 1, 36), (36, .aload_n 0, 1, 37), (37, .invokevirtual 89, 3, 40), (40, .ireturn, 1, 41)] := by unfold dtab; decide +kernel
theorem okX3_doGo : okY yX3_doGo 1 := by decide +kernel
set_option maxHeartbeats 4000000 in
theorem c_doGo (l : Launch) (D : va_G) {h0 : PH} {m : Nat} {ar : Nat → Nat} (hd : md m ar) (σ : MS) (x : Int32) (hW : WF σ) : Ct l D yX3_doGo cX3_doGo 3 (some .int) (rmM 4 99) [.ref m, .int x] (mh h0 m ar σ) (PM h0 m ar (some (.int ((m_go σ x).1))) ((m_go σ x).2)) := by
  refine Ct.of (by decide) rfl (fun Γ X rr hmn => ?_)
  have X : Cx l D cX3_doGo RX3 3 (rmM 4 99) Γ := X
  show J Γ (mh h0 m ar σ) 0 0 0 [(0, .ref m), (1, .int x)] []
  cases hl : ln x with
  | none =>
    refine J_iload_n X (dt tX3_doGo 0 rfl) 1 rfl ?_
    refine S_callS (rest := []) X (dt tX3_doGo 1 rfl) (c_isLane l D _ x ) (lw_S q1889 q1890 q86 q1891) okX3_isLane rfl ⟨Nat.le_of_ble_eq_true rfl, Nat.le_of_ble_eq_true rfl⟩ rfl (Nat.le_of_ble_eq_true rfl) (Nat.zero_le _) (Nat.zero_le _) ?_
    refine J_topi (ln_none hl) ?_
    refine J_if_ne X 10 (dt tX3_doGo 2 rfl) (by decide) (fun c9 => absurd (rfl) c9) (fun _ => ?_)
    refine J_ldc X (dt tX3_doGo 3 rfl) q1903 ?_
    exact J_iret X rr (dt tX3_doGo 4 rfl) (Nat.zero_le _) (Nat.zero_le _) (pm_of (by unfold m_go; rw [hl]))
  | some j =>
    obtain ⟨hj, rfl⟩ := ln_some hl
    refine J_iload_n X (dt tX3_doGo 0 rfl) 1 rfl ?_
    refine S_callS (rest := []) X (dt tX3_doGo 1 rfl) (c_isLane l D _ (nI j) ) (lw_S q1889 q1890 q86 q1891) okX3_isLane rfl ⟨Nat.le_of_ble_eq_true rfl, Nat.le_of_ble_eq_true rfl⟩ rfl (Nat.le_of_ble_eq_true rfl) (Nat.zero_le _) (Nat.zero_le _) ?_
    refine J_topi (m_isLane_in hj) ?_
    refine J_if_ne X 10 (dt tX3_doGo 2 rfl) (by decide) (fun _ => ?_) (fun c9 => absurd c9 ((by decide)))
    refine J_aload_n X (dt tX3_doGo 5 rfl) 0 rfl ?_
    refine J_iload_n X (dt tX3_doGo 6 rfl) 1 rfl ?_
    refine M_callV (rest := []) X (dt tX3_doGo 7 rfl) (c_has l D hd σ j (by omega)) (lw_V q1904 q1906 qs38 q86 q1907) okX3_has rfl rfl ⟨Nat.le_of_ble_eq_true rfl, Nat.le_of_ble_eq_true rfl⟩ rfl (Nat.le_of_ble_eq_true rfl) (Nat.zero_le _) (Nat.zero_le _) ?_
    refine J_if_ne X 21 (dt tX3_doGo 8 rfl) (by decide) (fun c1 => ?_) (fun c1 => ?_)
    · refine J_aload_n X (dt tX3_doGo 11 rfl) 0 rfl ?_
      refine M_get_all X (dt tX3_doGo 12 rfl) ?_
      refine J_iconst X (nI 1) (dt tX3_doGo 13 rfl) (by decide) ?_
      refine J_iload_n X (dt tX3_doGo 14 rfl) 1 rfl ?_
      refine J_iaddN X (dt tX3_doGo 15 rfl) ?_
      refine J_iconst X (nI 0) (dt tX3_doGo 16 rfl) (by decide) ?_
      refine M_ast_all X hd (dt tX3_doGo 17 rfl) (by omega) ?_
      refine J_aload_n X (dt tX3_doGo 18 rfl) 0 rfl ?_
      refine J_iload_n X (dt tX3_doGo 19 rfl) 1 rfl ?_
      refine M_callV (rest := []) X (dt tX3_doGo 20 rfl) (c_runsFor l D hd (sA σ 0 (upd (σ.1 0) (1 + j) (nI 0))) j (by omega) (hW.low (fun i hi => pk_un (by omega)))) (lw_V q1909 q1911 qs39 q86 q1912) okX3_runsFor rfl rfl ⟨Nat.le_of_ble_eq_true rfl, Nat.le_of_ble_eq_true rfl⟩ rfl (Nat.le_of_ble_eq_true rfl) (Nat.zero_le _) (Nat.zero_le _) ?_
      refine J_istore_n X (lv2 := [(2, .int (m_forR (sA σ 0 (upd (σ.1 0) (1 + j) (nI 0))) j)), (0, .ref m), (1, .int (nI j))]) (dt tX3_doGo 21 rfl) rfl rfl rfl ?_
      refine J_aload_n X (dt tX3_doGo 22 rfl) 1 rfl ?_
      refine M_callV (rest := []) X (dt tX3_doGo 23 rfl) (c_runners l D hd (m_forT (sA σ 0 (upd (σ.1 0) (1 + j) (nI 0))) j) ) (lw_V q1957 q1959 qs50 q86 q1960) okX3_runners rfl rfl ⟨Nat.le_of_ble_eq_true rfl, Nat.le_of_ble_eq_true rfl⟩ rfl (Nat.le_of_ble_eq_true rfl) (Nat.zero_le _) (Nat.zero_le _) ?_
      exact J_iret X rr (dt tX3_doGo 24 rfl) (Nat.zero_le _) (Nat.zero_le _) (pm_of (by unfold m_go; rw [hl]; exact if_neg c1))
    · refine J_ldc X (dt tX3_doGo 9 rfl) q1908 ?_
      exact J_iret X rr (dt tX3_doGo 10 rfl) (Nat.zero_le _) (Nat.zero_le _) (pm_of (by unfold m_go; rw [hl]; exact if_pos c1))
abbrev cX3_doSpeed : ByteArray := prog_12_method_23_code
def yX3_doSpeed : MethodName := ⟨RX3, "doSpeed", "(II)I"⟩
theorem tX3_doSpeed : dtab cX3_doSpeed [(0, .iload_n 1, 1, 1), (1, .invokestatic 75, 3, 4), (4, .ifCond .eq 10, 3, 7), (7, .iload_n 2, 1, 8), (8, .invokestatic 82, 3, 11), (11, .ifCond .ne 6, 3, 14), (14, .ldc 28, 2, 16), (16, .ireturn, 1, 17), (17, .aload_n 0, 1, 18), (18, .iload_n 1, 1, 19), (19, .invokevirtual 47, 3, 22), (22, .ifCond .ne 6, 3, 25), (25, .ldc 85, 2, 27), (27, .ireturn, 1, 28), (28, .aload_n 0, 1, 29), (29, .getfield 7, 3, 32), (32, .bipush 17, 2, 34), (34, .iload_n 1, 1, 35), (35, .iadd, 1, 36), (36, .iaload, 1, 37), (37, .istore_n 3, 1, 38), (38, .aload_n 0, 1, 39), (39, .getfield 7, 3, 42), (42, .bipush 17, 2, 44), (44, .iload_n 1, 1, 45), (45, .iadd, 1, 46), (46, .iload_n 2, 1, 47), (47, .iastore, 1, 48), (48, .aload_n 0, 1, 49), (49, .iload_n 1, 1, 50), (50, .invokevirtual 86, 3, 53), (53, .istore 4, 2, 55), (55, .iload_n 3, 1, 56), (56, .ireturn, 1, 57)] := by unfold dtab; decide +kernel
theorem okX3_doSpeed : okY yX3_doSpeed 2 := by decide +kernel
set_option maxHeartbeats 4000000 in
theorem c_doSpeed (l : Launch) (D : va_G) {h0 : PH} {m : Nat} {ar : Nat → Nat} (hd : md m ar) (σ : MS) (x : Int32) (s : Int32) (hW : WF σ) : Ct l D yX3_doSpeed cX3_doSpeed 5 (some .int) (rmM 4 99) [.ref m, .int x, .int s] (mh h0 m ar σ) (PM h0 m ar (some (.int ((m_speed σ x s).1))) ((m_speed σ x s).2)) := by
  refine Ct.of (by decide) rfl (fun Γ X rr hmn => ?_)
  have X : Cx l D cX3_doSpeed RX3 5 (rmM 4 99) Γ := X
  show J Γ (mh h0 m ar σ) 0 0 0 [(0, .ref m), (1, .int x), (2, .int s)] []
  cases hl : ln x with
  | none =>
    refine J_iload_n X (dt tX3_doSpeed 0 rfl) 1 rfl ?_
    refine S_callS (rest := []) X (dt tX3_doSpeed 1 rfl) (c_isLane l D _ x ) (lw_S q1889 q1890 q86 q1891) okX3_isLane rfl ⟨Nat.le_of_ble_eq_true rfl, Nat.le_of_ble_eq_true rfl⟩ rfl (Nat.le_of_ble_eq_true rfl) (Nat.zero_le _) (Nat.zero_le _) ?_
    refine J_topi (ln_none hl) ?_
    refine J_if_eq X 14 (dt tX3_doSpeed 2 rfl) (by decide) (fun _ => ?_) (fun c9 => absurd (rfl) c9)
    refine J_ldc X (dt tX3_doSpeed 6 rfl) q1903 ?_
    exact J_iret X rr (dt tX3_doSpeed 7 rfl) (Nat.zero_le _) (Nat.zero_le _) (pm_of (by unfold m_speed; rw [hl]))
  | some j =>
    obtain ⟨hj, rfl⟩ := ln_some hl
    refine J_iload_n X (dt tX3_doSpeed 0 rfl) 1 rfl ?_
    refine S_callS (rest := []) X (dt tX3_doSpeed 1 rfl) (c_isLane l D _ (nI j) ) (lw_S q1889 q1890 q86 q1891) okX3_isLane rfl ⟨Nat.le_of_ble_eq_true rfl, Nat.le_of_ble_eq_true rfl⟩ rfl (Nat.le_of_ble_eq_true rfl) (Nat.zero_le _) (Nat.zero_le _) ?_
    refine J_topi (m_isLane_in hj) ?_
    refine J_if_eq X 14 (dt tX3_doSpeed 2 rfl) (by decide) (fun c9 => absurd c9 ((by decide))) (fun _ => ?_)
    refine J_iload_n X (dt tX3_doSpeed 3 rfl) 2 rfl ?_
    refine S_callS (rest := []) X (dt tX3_doSpeed 4 rfl) (c_isSpeed l D _ s ) (lw_S q1898 q1899 q86 q1900) okX3_isSpeed rfl ⟨Nat.le_of_ble_eq_true rfl, Nat.le_of_ble_eq_true rfl⟩ rfl (Nat.le_of_ble_eq_true rfl) (Nat.zero_le _) (Nat.zero_le _) ?_
    refine J_if_ne X 17 (dt tX3_doSpeed 5 rfl) (by decide) (fun c1 => ?_) (fun c1 => ?_)
    · refine J_aload_n X (dt tX3_doSpeed 8 rfl) 0 rfl ?_
      refine J_iload_n X (dt tX3_doSpeed 9 rfl) 1 rfl ?_
      refine M_callV (rest := []) X (dt tX3_doSpeed 10 rfl) (c_has l D hd σ j (by omega)) (lw_V q1904 q1906 qs38 q86 q1907) okX3_has rfl rfl ⟨Nat.le_of_ble_eq_true rfl, Nat.le_of_ble_eq_true rfl⟩ rfl (Nat.le_of_ble_eq_true rfl) (Nat.zero_le _) (Nat.zero_le _) ?_
      refine J_if_ne X 28 (dt tX3_doSpeed 11 rfl) (by decide) (fun c2 => ?_) (fun c2 => ?_)
      · refine J_aload_n X (dt tX3_doSpeed 14 rfl) 0 rfl ?_
        refine M_get_all X (dt tX3_doSpeed 15 rfl) ?_
        refine J_bipush X (nI 17) (dt tX3_doSpeed 16 rfl) (by decide) ?_
        refine J_iload_n X (dt tX3_doSpeed 17 rfl) 1 rfl ?_
        refine J_iaddN X (dt tX3_doSpeed 18 rfl) ?_
        refine M_ald_all X hd (dt tX3_doSpeed 19 rfl) (by omega) ?_
        refine J_istore_n X (lv2 := [(3, .int (σ.1 0 (17 + j))), (0, .ref m), (1, .int (nI j)), (2, .int s)]) (dt tX3_doSpeed 20 rfl) rfl rfl rfl ?_
        refine J_aload_n X (dt tX3_doSpeed 21 rfl) 1 rfl ?_
        refine M_get_all X (dt tX3_doSpeed 22 rfl) ?_
        refine J_bipush X (nI 17) (dt tX3_doSpeed 23 rfl) (by decide) ?_
        refine J_iload_n X (dt tX3_doSpeed 24 rfl) 2 rfl ?_
        refine J_iaddN X (dt tX3_doSpeed 25 rfl) ?_
        refine J_iload_n X (dt tX3_doSpeed 26 rfl) 3 rfl ?_
        refine M_ast_all X hd (dt tX3_doSpeed 27 rfl) (by omega) ?_
        refine J_aload_n X (dt tX3_doSpeed 28 rfl) 1 rfl ?_
        refine J_iload_n X (dt tX3_doSpeed 29 rfl) 2 rfl ?_
        refine M_callV (rest := []) X (dt tX3_doSpeed 30 rfl) (c_runsFor l D hd (sA σ 0 (upd (σ.1 0) (17 + j) s)) j (by omega) (hW.low (fun i hi => pk_un (by omega)))) (lw_V q1909 q1911 qs39 q86 q1912) okX3_runsFor rfl rfl ⟨Nat.le_of_ble_eq_true rfl, Nat.le_of_ble_eq_true rfl⟩ rfl (Nat.le_of_ble_eq_true rfl) (Nat.zero_le _) (Nat.zero_le _) ?_
        refine J_istore X (lv2 := [(4, .int (m_forR (sA σ 0 (upd (σ.1 0) (17 + j) s)) j)), (3, .int (σ.1 0 (17 + j))), (0, .ref m), (1, .int (nI j)), (2, .int s)]) (dt tX3_doSpeed 31 rfl) rfl rfl ?_
        refine J_iload_n X (dt tX3_doSpeed 32 rfl) 1 rfl ?_
        exact J_iret X rr (dt tX3_doSpeed 33 rfl) (Nat.zero_le _) (Nat.zero_le _) (pm_of (by unfold m_speed; rw [hl]; exact (if_neg c1).trans (if_neg c2)))
      · refine J_ldc X (dt tX3_doSpeed 12 rfl) q1908 ?_
        exact J_iret X rr (dt tX3_doSpeed 13 rfl) (Nat.zero_le _) (Nat.zero_le _) (pm_of (by unfold m_speed; rw [hl]; exact (if_neg c1).trans (if_pos c2)))
    · refine J_ldc X (dt tX3_doSpeed 6 rfl) q1903 ?_
      exact J_iret X rr (dt tX3_doSpeed 7 rfl) (Nat.zero_le _) (Nat.zero_le _) (pm_of (by unfold m_speed; rw [hl]; exact if_pos c1))
abbrev cX3_doJump : ByteArray := prog_12_method_24_code
def yX3_doJump : MethodName := ⟨RX3, "doJump", "(II)I"⟩
theorem tX3_doJump : dtab cX3_doJump [(0, .iload_n 1, 1, 1), (1, .invokestatic 75, 3, 4), (4, .ifCond .eq 17, 3, 7), (7, .iload_n 2, 1, 8), (8, .i2l, 1, 9), (9, .ldc2_w 92, 3, 12), (12, .ldc2_w 94, 3, 15), (15, .invokestatic 35, 3, 18), (18, .ifCond .ne 6, 3, 21), (21, .ldc 28, 2, 23), (23, .ireturn, 1, 24), (24, .aload_n 0, 1, 25), (25, .iload_n 1, 1, 26), (26, .invokevirtual 47, 3, 29), (29, .ifCond .ne 6, 3, 32), (32, .ldc 85, 2, 34), (34, .ireturn, 1, 35), (35, .aload_n 0, 1, 36), (36, .getfield 7, 3, 39), (39, .bipush 9, 2, 41), (41, .iload_n 1, 1, 42), (42, .iadd, 1, 43), (43, .iaload, 1, 44), (44, .iload_n 2, 1, 45), (45, .iadd, 1, 46), (46, .i2l, 1, 47), (47, .ldc2_w 96, 3, 50), (50, .ldc2_w 98, 3, 53), (53, .invokestatic 35, 3, 56), (56, .ifCond .ne 6, 3, 59), (59, .ldc 100, 2, 61), (61, .ireturn, 1, 62), (62, .aload_n 0, 1, 63), (63, .getfield 7, 3, 66), (66, .bipush 9, 2, 68), (68, .iload_n 1, 1, 69), (69, .iadd, 1, 70), (70, .dup2, 1, 71), (71, .iaload, 1, 72), (72, .iload_n 2, 1, 73), (73, .iadd, 1, 74), (74, .iastore, 1, 75), (75, .aload_n 0, 1, 76), (76, .iload_n 1, 1, 77), (77, .invokevirtual 86, 3, 80), (80, .istore_n 3, 1, 81), (81, .aload_n 0, 1, 82), (82, .invokevirtual 61, 3, 85), (85, .ireturn, 1, 86)] := by unfold dtab; decide +kernel
theorem okX3_doJump : okY yX3_doJump 2 := by decide +kernel
set_option maxHeartbeats 4000000 in
theorem c_doJump (l : Launch) (D : va_G) {h0 : PH} {m : Nat} {ar : Nat → Nat} (hd : md m ar) (σ : MS) (x : Int32) (w : Int32) (hW : WF σ) : Ct l D yX3_doJump cX3_doJump 4 (some .int) (rmM 4 99) [.ref m, .int x, .int w] (mh h0 m ar σ) (PM h0 m ar (some (.int ((m_jump σ x w).1))) ((m_jump σ x w).2)) := by
  refine Ct.of (by decide) rfl (fun Γ X rr hmn => ?_)
  have X : Cx l D cX3_doJump RX3 4 (rmM 4 99) Γ := X
  show J Γ (mh h0 m ar σ) 0 0 0 [(0, .ref m), (1, .int x), (2, .int w)] []
  cases hl : ln x with
  | none =>
    refine J_iload_n X (dt tX3_doJump 0 rfl) 1 rfl ?_
    refine S_callS (rest := []) X (dt tX3_doJump 1 rfl) (c_isLane l D _ x ) (lw_S q1889 q1890 q86 q1891) okX3_isLane rfl ⟨Nat.le_of_ble_eq_true rfl, Nat.le_of_ble_eq_true rfl⟩ rfl (Nat.le_of_ble_eq_true rfl) (Nat.zero_le _) (Nat.zero_le _) ?_
    refine J_topi (ln_none hl) ?_
    refine J_if_eq X 21 (dt tX3_doJump 2 rfl) (by decide) (fun _ => ?_) (fun c9 => absurd (rfl) c9)
    refine J_ldc X (dt tX3_doJump 9 rfl) q1903 ?_
    exact J_iret X rr (dt tX3_doJump 10 rfl) (Nat.zero_le _) (Nat.zero_le _) (pm_of (by unfold m_jump; rw [hl]))
  | some j =>
    obtain ⟨hj, rfl⟩ := ln_some hl
    refine J_iload_n X (dt tX3_doJump 0 rfl) 1 rfl ?_
    refine S_callS (rest := []) X (dt tX3_doJump 1 rfl) (c_isLane l D _ (nI j) ) (lw_S q1889 q1890 q86 q1891) okX3_isLane rfl ⟨Nat.le_of_ble_eq_true rfl, Nat.le_of_ble_eq_true rfl⟩ rfl (Nat.le_of_ble_eq_true rfl) (Nat.zero_le _) (Nat.zero_le _) ?_
    refine J_topi (m_isLane_in hj) ?_
    refine J_if_eq X 21 (dt tX3_doJump 2 rfl) (by decide) (fun c9 => absurd c9 ((by decide))) (fun _ => ?_)
    refine J_iload_n X (dt tX3_doJump 3 rfl) 2 rfl ?_
    refine J_i2l X (dt tX3_doJump 4 rfl) ?_
    refine J_ldc2 X (dt tX3_doJump 5 rfl) q1977 ?_
    refine J_ldc2 X (dt tX3_doJump 6 rfl) q1978 ?_
    refine S_callS (rest := []) X (dt tX3_doJump 7 rfl) (c_in l D _ w.toInt64 (-999) (999) ) (lw_S q1893 q1894 q86 q1895) okX3_in rfl ⟨Nat.le_of_ble_eq_true rfl, Nat.le_of_ble_eq_true rfl⟩ rfl (Nat.le_of_ble_eq_true rfl) (Nat.zero_le _) (Nat.zero_le _) ?_
    refine J_if_ne X 24 (dt tX3_doJump 8 rfl) (by decide) (fun c1 => ?_) (fun c1 => ?_)
    · refine J_aload_n X (dt tX3_doJump 11 rfl) 0 rfl ?_
      refine J_iload_n X (dt tX3_doJump 12 rfl) 1 rfl ?_
      refine M_callV (rest := []) X (dt tX3_doJump 13 rfl) (c_has l D hd σ j (by omega)) (lw_V q1904 q1906 qs38 q86 q1907) okX3_has rfl rfl ⟨Nat.le_of_ble_eq_true rfl, Nat.le_of_ble_eq_true rfl⟩ rfl (Nat.le_of_ble_eq_true rfl) (Nat.zero_le _) (Nat.zero_le _) ?_
      refine J_if_ne X 35 (dt tX3_doJump 14 rfl) (by decide) (fun c2 => ?_) (fun c2 => ?_)
      · refine J_aload_n X (dt tX3_doJump 17 rfl) 0 rfl ?_
        refine M_get_all X (dt tX3_doJump 18 rfl) ?_
        refine J_bipush X (nI 9) (dt tX3_doJump 19 rfl) (by decide) ?_
        refine J_iload_n X (dt tX3_doJump 20 rfl) 1 rfl ?_
        refine J_iaddN X (dt tX3_doJump 21 rfl) ?_
        refine M_ald_all X hd (dt tX3_doJump 22 rfl) (by omega) ?_
        refine J_iload_n X (dt tX3_doJump 23 rfl) 2 rfl ?_
        refine J_iadd X (dt tX3_doJump 24 rfl) ?_
        refine J_i2l X (dt tX3_doJump 25 rfl) ?_
        refine J_ldc2 X (dt tX3_doJump 26 rfl) q1979 ?_
        refine J_ldc2 X (dt tX3_doJump 27 rfl) q1980 ?_
        refine S_callS (rest := []) X (dt tX3_doJump 28 rfl) (c_in l D _ (((σ.1 0 (9 + j)) + w).toInt64) (-1000000) (1000000) ) (lw_S q1893 q1894 q86 q1895) okX3_in rfl ⟨Nat.le_of_ble_eq_true rfl, Nat.le_of_ble_eq_true rfl⟩ rfl (Nat.le_of_ble_eq_true rfl) (Nat.zero_le _) (Nat.zero_le _) ?_
        refine J_if_ne X 62 (dt tX3_doJump 29 rfl) (by decide) (fun c3 => ?_) (fun c3 => ?_)
        · refine J_aload_n X (dt tX3_doJump 32 rfl) 0 rfl ?_
          refine M_get_all X (dt tX3_doJump 33 rfl) ?_
          refine J_bipush X (nI 9) (dt tX3_doJump 34 rfl) (by decide) ?_
          refine J_iload_n X (dt tX3_doJump 35 rfl) 1 rfl ?_
          refine J_iaddN X (dt tX3_doJump 36 rfl) ?_
          refine J_dup2 X (dt tX3_doJump 37 rfl) rfl rfl ?_
          refine M_ald_all X hd (dt tX3_doJump 38 rfl) (by omega) ?_
          refine J_iload_n X (dt tX3_doJump 39 rfl) 2 rfl ?_
          refine J_iadd X (dt tX3_doJump 40 rfl) ?_
          refine M_ast_all X hd (dt tX3_doJump 41 rfl) (by omega) ?_
          refine J_aload_n X (dt tX3_doJump 42 rfl) 0 rfl ?_
          refine J_iload_n X (dt tX3_doJump 43 rfl) 1 rfl ?_
          refine M_callV (rest := []) X (dt tX3_doJump 44 rfl) (c_runsFor l D hd (sA σ 0 (upd (σ.1 0) (9 + j) ((σ.1 0 (9 + j)) + w))) j (by omega) (hW.low (fun i hi => pk_un (by omega)))) (lw_V q1909 q1911 qs39 q86 q1912) okX3_runsFor rfl rfl ⟨Nat.le_of_ble_eq_true rfl, Nat.le_of_ble_eq_true rfl⟩ rfl (Nat.le_of_ble_eq_true rfl) (Nat.zero_le _) (Nat.zero_le _) ?_
          refine J_istore_n X (lv2 := [(3, .int (m_forR (sA σ 0 (upd (σ.1 0) (9 + j) ((σ.1 0 (9 + j)) + w))) j)), (0, .ref m), (1, .int (nI j)), (2, .int w)]) (dt tX3_doJump 45 rfl) rfl rfl rfl ?_
          refine J_aload_n X (dt tX3_doJump 46 rfl) 1 rfl ?_
          refine M_callV (rest := []) X (dt tX3_doJump 47 rfl) (c_leaderNow l D hd (m_forT (sA σ 0 (upd (σ.1 0) (9 + j) ((σ.1 0 (9 + j)) + w))) j) ) (lw_V q1937 q1939 qs46 q86 q1940) okX3_leaderNow rfl rfl ⟨Nat.le_of_ble_eq_true rfl, Nat.le_of_ble_eq_true rfl⟩ rfl (Nat.le_of_ble_eq_true rfl) (Nat.zero_le _) (Nat.zero_le _) ?_
          exact J_iret X rr (dt tX3_doJump 48 rfl) (Nat.zero_le _) (Nat.zero_le _) (pm_of (by unfold m_jump; rw [hl]; exact (if_neg c1).trans ((if_neg c2).trans (if_neg c3))))
        · refine J_ldc X (dt tX3_doJump 30 rfl) q1981 ?_
          exact J_iret X rr (dt tX3_doJump 31 rfl) (Nat.zero_le _) (Nat.zero_le _) (pm_of (by unfold m_jump; rw [hl]; exact (if_neg c1).trans ((if_neg c2).trans (if_pos c3))))
      · refine J_ldc X (dt tX3_doJump 15 rfl) q1908 ?_
        exact J_iret X rr (dt tX3_doJump 16 rfl) (Nat.zero_le _) (Nat.zero_le _) (pm_of (by unfold m_jump; rw [hl]; exact (if_neg c1).trans (if_pos c2)))
    · refine J_ldc X (dt tX3_doJump 9 rfl) q1903 ?_
      exact J_iret X rr (dt tX3_doJump 10 rfl) (Nat.zero_le _) (Nat.zero_le _) (pm_of (by unfold m_jump; rw [hl]; exact if_pos c1))
