/-! printed by gen/modelm.py -/
set_option maxRecDepth 100000
theorem q1999 : (Jvm.Cond.constantLong "LeadRacesModel" (129 : Nat) (4 : Int64)) ∈ lw_all := lw_g (lw_at lw_m9 11 rfl) rfl
theorem q2001 : (Jvm.Cond.methodLink "LeadRacesModel" (132 : Nat) ({ cls := "LeadRacesModel", name := "rank", desc := "(I)I" } : Jvm.MethodName)) ∈ lw_all := lw_g (lw_at lw_m9 13 rfl) rfl
theorem q2003 : (Jvm.Cond.instanceMethod ({ cls := "LeadRacesModel", name := "rank", desc := "(I)I" } : Jvm.MethodName)) ∈ lw_all := lw_g (lw_at lw_m9 15 rfl) rfl
theorem q2004 : (Jvm.Cond.code ({ cls := "LeadRacesModel", name := "rank", desc := "(I)I" } : Jvm.MethodName) prog_12_method_32_code (4 : Nat) (Option.some Jvm.ClassFile.FieldType.int)) ∈ lw_all := lw_g (lw_at lw_m9 16 rfl) rfl
theorem q2009 : (Jvm.Cond.constantLong "LeadRacesModel" (135 : Nat) (6 : Int64)) ∈ lw_all := lw_g (lw_at lw_m9 21 rfl) rfl
theorem q2037 : (Jvm.Cond.constantLong "LeadRacesModel" (149 : Nat) (20000 : Int64)) ∈ lw_all := lw_g (lw_at lw_m9 49 rfl) rfl
theorem q2038 : (Jvm.Cond.methodLink "LeadRacesModel" (151 : Nat) ({ cls := "LeadRacesModel", name := "leaderBehind", desc := "(I)I" } : Jvm.MethodName)) ∈ lw_all := lw_g (lw_at lw_m9 50 rfl) rfl
theorem q2040 : (Jvm.Cond.instanceMethod ({ cls := "LeadRacesModel", name := "leaderBehind", desc := "(I)I" } : Jvm.MethodName)) ∈ lw_all := lw_g (lw_at lw_m9 52 rfl) rfl
theorem q2041 : (Jvm.Cond.code ({ cls := "LeadRacesModel", name := "leaderBehind", desc := "(I)I" } : Jvm.MethodName) prog_12_method_31_code (4 : Nat) (Option.some Jvm.ClassFile.FieldType.int)) ∈ lw_all := lw_g (lw_at lw_m9 53 rfl) rfl
/-! the reference: what is asked of it -/
def m_lb (σ : MS) (t : Int32) : Nat → Option Nat
  | 0 => none
  | i + 1 => if m_has σ i = 0 then m_lb σ t i else match m_lb σ t i with
    | none => some i
    | some b => if m_isAhead σ i b t = 0 then some b else some i
theorem m_lb_lt (σ : MS) (t : Int32) : ∀ i b, m_lb σ t i = some b → b < i
  | 0, b, h => by cases h
  | i + 1, b, h => by
    rw [m_lb] at h
    split at h
    · exact Nat.lt_succ_of_lt (m_lb_lt σ t i b h)
    · cases e : m_lb σ t i with
      | none => rw [e] at h; cases h; exact Nat.lt_succ_self i
      | some c =>
        rw [e] at h
        dsimp only at h
        have := m_lb_lt σ t i c e
        split at h <;> cases h <;> omega
theorem m_lb_n {σ : MS} {t : Int32} {i : Nat} (e : m_lb σ t i = none) : m_lb σ t (i + 1) = if m_has σ i = 0 then none else some i := by
  rw [m_lb, e]
theorem m_lb_c {σ : MS} {t : Int32} {i b : Nat} (e : m_lb σ t i = some b) : m_lb σ t (i + 1) = if m_has σ i = 0 then some b else if m_isAhead σ i b t = 0 then some b else some i := by
  rw [m_lb, e]
def m_leaderBehind (σ : MS) (t : Int32) : Int32 := on (m_lb σ t 8)
theorem m_leaderBehind_L (σ : MS) (t : Int32) : isL (m_leaderBehind σ t) := isL_on (m_lb_lt σ t 8)
def m_rk (σ : MS) (j : Nat) : Nat → Int32
  | 0 => 0
  | i + 1 => m_rk σ j i + (if nI i = nI j then 0 else if m_has σ i = 0 then 0 else if m_isAhead σ i j (nI 0) = 0 then 0 else 1)
def m_nr (a : Nat → Int32) : Nat → Int32
  | 0 => -1
  | i + 1 => if a (47 + i) = -1 then m_nr a i else if m_nr a i = -1 then a (47 + i) else if m_nr a i ≤ a (47 + i) then m_nr a i else a (47 + i)
abbrev cX3_leaderBehind : ByteArray := prog_12_method_31_code
def yX3_leaderBehind : MethodName := ⟨RX3, "leaderBehind", "(I)I"⟩
theorem tX3_leaderBehind : dtab cX3_leaderBehind [(0, .iconst (-1), 1, 1), (1, .istore_n 2, 1, 2), (2, .iconst 0, 1, 3), (3, .istore_n 3, 1, 4), (4, .iload_n 3, 1, 5), (5, .bipush 8, 2, 7), (7, .if_icmp .ge 38, 3, 10), (10, .aload_n 0, 1, 11), (11, .iload_n 3, 1, 12), (12, .invokevirtual 47, 3, 15), (15, .ifCond .eq 22, 3, 18), (18, .iload_n 2, 1, 19), (19, .iconst (-1), 1, 20), (20, .if_icmp .eq 13, 3, 23), (23, .aload_n 0, 1, 24), (24, .iload_n 3, 1, 25), (25, .iload_n 2, 1, 26), (26, .iload_n 1, 1, 27), (27, .invokevirtual 54, 3, 30), (30, .ifCond .eq 7, 3, 33), (33, .iload_n 3, 1, 34), (34, .goto 4, 3, 37), (37, .iload_n 2, 1, 38), (38, .istore_n 2, 1, 39), (39, .iinc 3 1, 3, 42), (42, .goto (-38), 3, 45), (45, .iload_n 2, 1, 46), (46, .ireturn, 1, 47)] := by unfold dtab; decide +kernel
theorem okX3_leaderBehind : okY yX3_leaderBehind 1 := by decide +kernel
set_option maxHeartbeats 4000000 in
theorem c_leaderBehind (l : Launch) (D : va_G) {h0 : PH} {m : Nat} {ar : Nat → Nat} (hd : md m ar) (σ : MS) (t : Int32)  : Ct l D yX3_leaderBehind cX3_leaderBehind 4 (some .int) (rmM 2 46) [.ref m, .int t] (mh h0 m ar σ) (PM h0 m ar (some (.int (m_leaderBehind σ t))) σ) := by
  refine Ct.of (by decide) rfl (fun Γ X rr hmn => ?_)
  have X : Cx l D cX3_leaderBehind RX3 4 (rmM 2 46) Γ := X
  show J Γ (mh h0 m ar σ) 0 0 0 [(0, .ref m), (1, .int t)] []
  refine J_iconst X (-1) (dt tX3_leaderBehind 0 rfl) (by decide) ?_
  refine J_istore_n X (lv2 := [(2, .int (-1)), (0, .ref m), (1, .int t)]) (dt tX3_leaderBehind 1 rfl) rfl rfl rfl ?_
  refine J_iconst X (nI 0) (dt tX3_leaderBehind 2 rfl) (by decide) ?_
  refine J_istore_n X (lv2 := [(3, .int (nI 0)), (2, .int (-1)), (0, .ref m), (1, .int t)]) (dt tX3_leaderBehind 3 rfl) rfl rfl rfl ?_
  refine J_sub [2, 3, 1, 0] rfl ?_
  refine up_to 8 (P := fun i1 => J Γ (mh h0 m ar σ) 0 0 4 [(0, .ref m), (1, .int t), (2, .int (on (m_lb σ t i1))), (3, .int (nI i1))] []) ?_ ?_
  · show J Γ (mh h0 m ar σ) 0 0 4 [(0, .ref m), (1, .int t), (2, .int (on (m_lb σ t 8))), (3, .int (nI 8))] []
    refine J_iload_n X (dt tX3_leaderBehind 4 rfl) 3 rfl ?_
    refine J_bipush X (nI 8) (dt tX3_leaderBehind 5 rfl) (by decide) ?_
    refine J_icmp_ge X 45 (dt tX3_leaderBehind 6 rfl) (by decide) (fun _ => ?_) (fun c9 => absurd (nI_le (Nat.le_refl 8) (by decide)) c9)
    refine J_iload_n X (dt tX3_leaderBehind 26 rfl) 2 rfl ?_
    exact J_iret X rr (dt tX3_leaderBehind 27 rfl) (Nat.zero_le _) (Nat.zero_le _) ⟨rfl, rfl⟩
  · intro i1 hi1 ih
    cases hb : m_lb σ t i1 with
    | none =>
      show J Γ (mh h0 m ar σ) 0 0 4 [(0, .ref m), (1, .int t), (2, .int (-1)), (3, .int (nI i1))] []
      refine J_iload_n X (dt tX3_leaderBehind 4 rfl) 3 rfl ?_
      refine J_bipush X (nI 8) (dt tX3_leaderBehind 5 rfl) (by decide) ?_
      refine J_icmp_ge X 45 (dt tX3_leaderBehind 6 rfl) (by decide) (fun c9 => absurd c9 (nI_ge hi1 (by decide))) (fun _ => ?_)
      refine J_aload_n X (dt tX3_leaderBehind 7 rfl) 0 rfl ?_
      refine J_iload_n X (dt tX3_leaderBehind 8 rfl) 3 rfl ?_
      refine M_callV (rest := []) X (dt tX3_leaderBehind 9 rfl) (c_has l D hd σ i1 (by omega)) (lw_V q1904 q1906 qs38 q86 q1907) okX3_has rfl rfl ⟨Nat.le_of_ble_eq_true rfl, Nat.le_of_ble_eq_true rfl⟩ rfl (Nat.le_of_ble_eq_true rfl) (Nat.zero_le _) (Nat.zero_le _) ?_
      have kj4 : ∀ v3 : Int32, v3 = (if (m_has σ i1) = 0 then (-1) else nI i1) → J Γ (mh h0 m ar σ) 0 0 38 [(0, .ref m), (1, .int t), (2, .int (-1)), (3, .int (nI i1))] [.int v3] := by
        intro v3 ev3
        refine J_istore_n X (lv2 := [(2, .int v3), (0, .ref m), (1, .int t), (3, .int (nI i1))]) (dt tX3_leaderBehind 23 rfl) rfl rfl rfl ?_
        refine J_iinc X (lv2 := [(3, .int (nI (i1 + 1))), (2, .int v3), (0, .ref m), (1, .int t)]) (dt tX3_leaderBehind 24 rfl) 3 (nI (i1 + 1)) rfl (nI_add i1 1) rfl rfl ?_
        refine J_goto X (tgt := 4) (dt tX3_leaderBehind 25 rfl) (by decide) ?_
        refine J_sub [2, 3, 1, 0] rfl ?_
        have e9 : v3 = on (m_lb σ t (i1 + 1)) := by rw [m_lb_n hb, ev3]; split <;> rfl
        rw [← e9] at ih
        exact ih
      refine J_if_eq X 37 (dt tX3_leaderBehind 10 rfl) (by decide) (fun c2 => ?_) (fun c2 => ?_)
      · refine J_iload_n X (dt tX3_leaderBehind 22 rfl) 2 rfl ?_
        exact kj4 _ (if_pos c2).symm
      · refine J_iload_n X (dt tX3_leaderBehind 11 rfl) 2 rfl ?_
        refine J_iconst X (-1) (dt tX3_leaderBehind 12 rfl) (by decide) ?_
        refine J_icmp_eq X 33 (dt tX3_leaderBehind 13 rfl) (by decide) (fun _ => ?_) (fun c9 => absurd (rfl) c9)
        refine J_iload_n X (dt tX3_leaderBehind 20 rfl) 3 rfl ?_
        refine J_goto X (tgt := 38) (dt tX3_leaderBehind 21 rfl) (by decide) ?_
        exact kj4 _ (if_neg c2).symm
    | some b =>
      have hbl := m_lb_lt σ t i1 b hb
      show J Γ (mh h0 m ar σ) 0 0 4 [(0, .ref m), (1, .int t), (2, .int (nI b)), (3, .int (nI i1))] []
      refine J_iload_n X (dt tX3_leaderBehind 4 rfl) 3 rfl ?_
      refine J_bipush X (nI 8) (dt tX3_leaderBehind 5 rfl) (by decide) ?_
      refine J_icmp_ge X 45 (dt tX3_leaderBehind 6 rfl) (by decide) (fun c9 => absurd c9 (nI_ge hi1 (by decide))) (fun _ => ?_)
      refine J_aload_n X (dt tX3_leaderBehind 7 rfl) 0 rfl ?_
      refine J_iload_n X (dt tX3_leaderBehind 8 rfl) 3 rfl ?_
      refine M_callV (rest := []) X (dt tX3_leaderBehind 9 rfl) (c_has l D hd σ i1 (by omega)) (lw_V q1904 q1906 qs38 q86 q1907) okX3_has rfl rfl ⟨Nat.le_of_ble_eq_true rfl, Nat.le_of_ble_eq_true rfl⟩ rfl (Nat.le_of_ble_eq_true rfl) (Nat.zero_le _) (Nat.zero_le _) ?_
      have kj8 : ∀ v7 : Int32, v7 = (if (m_has σ i1) = 0 then nI b else if (m_isAhead σ i1 b t) = 0 then nI b else nI i1) → J Γ (mh h0 m ar σ) 0 0 38 [(0, .ref m), (1, .int t), (2, .int (nI b)), (3, .int (nI i1))] [.int v7] := by
        intro v7 ev7
        refine J_istore_n X (lv2 := [(2, .int v7), (0, .ref m), (1, .int t), (3, .int (nI i1))]) (dt tX3_leaderBehind 23 rfl) rfl rfl rfl ?_
        refine J_iinc X (lv2 := [(3, .int (nI (i1 + 1))), (2, .int v7), (0, .ref m), (1, .int t)]) (dt tX3_leaderBehind 24 rfl) 3 (nI (i1 + 1)) rfl (nI_add i1 1) rfl rfl ?_
        refine J_goto X (tgt := 4) (dt tX3_leaderBehind 25 rfl) (by decide) ?_
        refine J_sub [2, 3, 1, 0] rfl ?_
        have e9 : v7 = on (m_lb σ t (i1 + 1)) := by
          rw [m_lb_c hb, ev7]
          split
          · rfl
          · split <;> rfl
        rw [← e9] at ih
        exact ih
      refine J_if_eq X 37 (dt tX3_leaderBehind 10 rfl) (by decide) (fun c5 => ?_) (fun c5 => ?_)
      · refine J_iload_n X (dt tX3_leaderBehind 22 rfl) 2 rfl ?_
        exact kj8 _ (if_pos c5).symm
      · refine J_iload_n X (dt tX3_leaderBehind 11 rfl) 2 rfl ?_
        refine J_iconst X (-1) (dt tX3_leaderBehind 12 rfl) (by decide) ?_
        refine J_icmp_eq X 33 (dt tX3_leaderBehind 13 rfl) (by decide) (fun c9 => absurd c9 (nI_nm1 (by omega))) (fun _ => ?_)
        refine J_aload_n X (dt tX3_leaderBehind 14 rfl) 0 rfl ?_
        refine J_iload_n X (dt tX3_leaderBehind 15 rfl) 3 rfl ?_
        refine J_iload_n X (dt tX3_leaderBehind 16 rfl) 2 rfl ?_
        refine J_iload_n X (dt tX3_leaderBehind 17 rfl) 1 rfl ?_
        refine M_callV (rest := []) X (dt tX3_leaderBehind 18 rfl) (c_isAhead l D hd σ i1 b t (by omega) (by omega)) (lw_V q1921 q1923 qs42 q86 q1924) okX3_isAhead rfl rfl ⟨Nat.le_of_ble_eq_true rfl, Nat.le_of_ble_eq_true rfl⟩ rfl (Nat.le_of_ble_eq_true rfl) (Nat.zero_le _) (Nat.zero_le _) ?_
        refine J_if_eq X 37 (dt tX3_leaderBehind 19 rfl) (by decide) (fun c6 => ?_) (fun c6 => ?_)
        · refine J_iload_n X (dt tX3_leaderBehind 22 rfl) 2 rfl ?_
          exact kj8 _ ((if_neg c5).trans (if_pos c6)).symm
        · refine J_iload_n X (dt tX3_leaderBehind 20 rfl) 3 rfl ?_
          refine J_goto X (tgt := 38) (dt tX3_leaderBehind 21 rfl) (by decide) ?_
          exact kj8 _ ((if_neg c5).trans (if_neg c6)).symm
abbrev cX3_rank : ByteArray := prog_12_method_32_code
def yX3_rank : MethodName := ⟨RX3, "rank", "(I)I"⟩
theorem tX3_rank : dtab cX3_rank [(0, .iconst 0, 1, 1), (1, .istore_n 2, 1, 2), (2, .iconst 0, 1, 3), (3, .istore_n 3, 1, 4), (4, .iload_n 3, 1, 5), (5, .bipush 8, 2, 7), (7, .if_icmp .ge 40, 3, 10), (10, .iload_n 2, 1, 11), (11, .iload_n 3, 1, 12), (12, .iload_n 1, 1, 13), (13, .if_icmp .eq 25, 3, 16), (16, .aload_n 0, 1, 17), (17, .iload_n 3, 1, 18), (18, .invokevirtual 47, 3, 21), (21, .ifCond .eq 17, 3, 24), (24, .aload_n 0, 1, 25), (25, .iload_n 3, 1, 26), (26, .iload_n 1, 1, 27), (27, .iconst 0, 1, 28), (28, .invokevirtual 54, 3, 31), (31, .ifCond .eq 7, 3, 34), (34, .iconst 1, 1, 35), (35, .goto 4, 3, 38), (38, .iconst 0, 1, 39), (39, .iadd, 1, 40), (40, .istore_n 2, 1, 41), (41, .iinc 3 1, 3, 44), (44, .goto (-40), 3, 47), (47, .iload_n 2, 1, 48), (48, .ireturn, 1, 49)] := by unfold dtab; decide +kernel
theorem okX3_rank : okY yX3_rank 1 := by decide +kernel
set_option maxHeartbeats 4000000 in
theorem c_rank (l : Launch) (D : va_G) {h0 : PH} {m : Nat} {ar : Nat → Nat} (hd : md m ar) (σ : MS) (j : Nat) (hj : j < 8) : Ct l D yX3_rank cX3_rank 4 (some .int) (rmM 2 46) [.ref m, .int (nI j)] (mh h0 m ar σ) (PM h0 m ar (some (.int (m_rk σ j 8))) σ) := by
  refine Ct.of (by decide) rfl (fun Γ X rr hmn => ?_)
  have X : Cx l D cX3_rank RX3 4 (rmM 2 46) Γ := X
  show J Γ (mh h0 m ar σ) 0 0 0 [(0, .ref m), (1, .int (nI j))] []
  refine J_iconst X (nI 0) (dt tX3_rank 0 rfl) (by decide) ?_
  refine J_istore_n X (lv2 := [(2, .int (nI 0)), (0, .ref m), (1, .int (nI j))]) (dt tX3_rank 1 rfl) rfl rfl rfl ?_
  refine J_iconst X (nI 0) (dt tX3_rank 2 rfl) (by decide) ?_
  refine J_istore_n X (lv2 := [(3, .int (nI 0)), (2, .int (nI 0)), (0, .ref m), (1, .int (nI j))]) (dt tX3_rank 3 rfl) rfl rfl rfl ?_
  refine J_sub [2, 3, 1, 0] rfl ?_
  refine up_to 8 (P := fun i1 => J Γ (mh h0 m ar σ) 0 0 4 [(0, .ref m), (1, .int (nI j)), (2, .int (m_rk σ j i1)), (3, .int (nI i1))] []) ?_ ?_
  · show J Γ (mh h0 m ar σ) 0 0 4 [(0, .ref m), (1, .int (nI j)), (2, .int (m_rk σ j 8)), (3, .int (nI 8))] []
    refine J_iload_n X (dt tX3_rank 4 rfl) 3 rfl ?_
    refine J_bipush X (nI 8) (dt tX3_rank 5 rfl) (by decide) ?_
    refine J_icmp_ge X 47 (dt tX3_rank 6 rfl) (by decide) (fun _ => ?_) (fun c9 => absurd (nI_le (Nat.le_refl 8) (by decide)) c9)
    refine J_iload_n X (dt tX3_rank 28 rfl) 2 rfl ?_
    exact J_iret X rr (dt tX3_rank 29 rfl) (Nat.zero_le _) (Nat.zero_le _) ⟨rfl, rfl⟩
  · intro i1 hi1 ih
    refine J_iload_n X (dt tX3_rank 4 rfl) 3 rfl ?_
    refine J_bipush X (nI 8) (dt tX3_rank 5 rfl) (by decide) ?_
    refine J_icmp_ge X 47 (dt tX3_rank 6 rfl) (by decide) (fun c9 => absurd c9 (nI_ge hi1 (by decide))) (fun _ => ?_)
    refine J_iload_n X (dt tX3_rank 7 rfl) 2 rfl ?_
    refine J_iload_n X (dt tX3_rank 8 rfl) 3 rfl ?_
    refine J_iload_n X (dt tX3_rank 9 rfl) 1 rfl ?_
    have kj6 : ∀ v5 : Int32, v5 = (if (nI i1) = (nI j) then nI 0 else if (m_has σ i1) = 0 then nI 0 else if (m_isAhead σ i1 j (nI 0)) = 0 then nI 0 else nI 1) → J Γ (mh h0 m ar σ) 0 0 39 [(0, .ref m), (1, .int (nI j)), (2, .int (m_rk σ j i1)), (3, .int (nI i1))] [.int v5, .int (m_rk σ j i1)] := by
      intro v5 ev5
      refine J_iadd X (dt tX3_rank 24 rfl) ?_
      refine J_istore_n X (lv2 := [(2, .int ((m_rk σ j i1) + v5)), (0, .ref m), (1, .int (nI j)), (3, .int (nI i1))]) (dt tX3_rank 25 rfl) rfl rfl rfl ?_
      refine J_iinc X (lv2 := [(3, .int (nI (i1 + 1))), (2, .int ((m_rk σ j i1) + v5)), (0, .ref m), (1, .int (nI j))]) (dt tX3_rank 26 rfl) 3 (nI (i1 + 1)) rfl (nI_add i1 1) rfl rfl ?_
      refine J_goto X (tgt := 4) (dt tX3_rank 27 rfl) (by decide) ?_
      refine J_sub [2, 3, 1, 0] rfl ?_
      subst_vars
      exact ih
    refine J_icmp_eq X 38 (dt tX3_rank 10 rfl) (by decide) (fun c2 => ?_) (fun c2 => ?_)
    · refine J_iconst X (nI 0) (dt tX3_rank 23 rfl) (by decide) ?_
      exact kj6 _ (if_pos c2).symm
    · refine J_aload_n X (dt tX3_rank 11 rfl) 0 rfl ?_
      refine J_iload_n X (dt tX3_rank 12 rfl) 3 rfl ?_
      refine M_callV (rest := [.int (m_rk σ j i1)]) X (dt tX3_rank 13 rfl) (c_has l D hd σ i1 (by omega)) (lw_V q1904 q1906 qs38 q86 q1907) okX3_has rfl rfl ⟨Nat.le_of_ble_eq_true rfl, Nat.le_of_ble_eq_true rfl⟩ rfl (Nat.le_of_ble_eq_true rfl) (Nat.zero_le _) (Nat.zero_le _) ?_
      refine J_if_eq X 38 (dt tX3_rank 14 rfl) (by decide) (fun c3 => ?_) (fun c3 => ?_)
      · refine J_iconst X (nI 0) (dt tX3_rank 23 rfl) (by decide) ?_
        exact kj6 _ ((if_neg c2).trans (if_pos c3)).symm
      · refine J_aload_n X (dt tX3_rank 15 rfl) 0 rfl ?_
        refine J_iload_n X (dt tX3_rank 16 rfl) 3 rfl ?_
        refine J_iload_n X (dt tX3_rank 17 rfl) 1 rfl ?_
        refine J_iconst X (nI 0) (dt tX3_rank 18 rfl) (by decide) ?_
        refine M_callV (rest := [.int (m_rk σ j i1)]) X (dt tX3_rank 19 rfl) (c_isAhead l D hd σ i1 j (nI 0) (by omega) (by omega)) (lw_V q1921 q1923 qs42 q86 q1924) okX3_isAhead rfl rfl ⟨Nat.le_of_ble_eq_true rfl, Nat.le_of_ble_eq_true rfl⟩ rfl (Nat.le_of_ble_eq_true rfl) (Nat.zero_le _) (Nat.zero_le _) ?_
        refine J_if_eq X 38 (dt tX3_rank 20 rfl) (by decide) (fun c4 => ?_) (fun c4 => ?_)
        · refine J_iconst X (nI 0) (dt tX3_rank 23 rfl) (by decide) ?_
          exact kj6 _ ((if_neg c2).trans ((if_neg c3).trans (if_pos c4))).symm
        · refine J_iconst X (nI 1) (dt tX3_rank 21 rfl) (by decide) ?_
          refine J_goto X (tgt := 39) (dt tX3_rank 22 rfl) (by decide) ?_
          exact kj6 _ ((if_neg c2).trans ((if_neg c3).trans (if_neg c4))).symm
abbrev cX3_nextRun : ByteArray := prog_12_method_46_code
def yX3_nextRun : MethodName := ⟨RX3, "nextRun", "()I"⟩
theorem tX3_nextRun : dtab cX3_nextRun [(0, .iconst (-1), 1, 1), (1, .istore_n 1, 1, 2), (2, .iconst 0, 1, 3), (3, .istore_n 2, 1, 4), (4, .iload_n 2, 1, 5), (5, .bipush 7, 2, 7), (7, .if_icmp .ge 40, 3, 10), (10, .aload_n 0, 1, 11), (11, .getfield 7, 3, 14), (14, .bipush 47, 2, 16), (16, .iload_n 2, 1, 17), (17, .iadd, 1, 18), (18, .iaload, 1, 19), (19, .istore_n 3, 1, 20), (20, .iload_n 3, 1, 21), (21, .iconst (-1), 1, 22), (22, .if_icmp .eq 17, 3, 25), (25, .iload_n 1, 1, 26), (26, .iconst (-1), 1, 27), (27, .if_icmp .eq 8, 3, 30), (30, .iload_n 3, 1, 31), (31, .iload_n 1, 1, 32), (32, .if_icmp .ge 7, 3, 35), (35, .iload_n 3, 1, 36), (36, .goto 4, 3, 39), (39, .iload_n 1, 1, 40), (40, .istore_n 1, 1, 41), (41, .iinc 2 1, 3, 44), (44, .goto (-40), 3, 47), (47, .iload_n 1, 1, 48), (48, .invokestatic 137, 3, 51), (51, .ireturn, 1, 52)] := by unfold dtab; decide +kernel
theorem okX3_nextRun : okY yX3_nextRun 0 := by decide +kernel
set_option maxHeartbeats 4000000 in
theorem c_nextRun (l : Launch) (D : va_G) {h0 : PH} {m : Nat} {ar : Nat → Nat} (hd : md m ar) (σ : MS)   : Ct l D yX3_nextRun cX3_nextRun 4 (some .int) (rmM 1 20) [.ref m] (mh h0 m ar σ) (PM h0 m ar (some (.int (m_found (m_nr (σ.1 0) 7)))) σ) := by
  refine Ct.of (by decide) rfl (fun Γ X rr hmn => ?_)
  have X : Cx l D cX3_nextRun RX3 4 (rmM 1 20) Γ := X
  show J Γ (mh h0 m ar σ) 0 0 0 [(0, .ref m)] []
  refine J_iconst X (-1) (dt tX3_nextRun 0 rfl) (by decide) ?_
  refine J_istore_n X (lv2 := [(1, .int (-1)), (0, .ref m)]) (dt tX3_nextRun 1 rfl) rfl rfl rfl ?_
  refine J_iconst X (nI 0) (dt tX3_nextRun 2 rfl) (by decide) ?_
  refine J_istore_n X (lv2 := [(2, .int (nI 0)), (1, .int (-1)), (0, .ref m)]) (dt tX3_nextRun 3 rfl) rfl rfl rfl ?_
  refine J_sub [2, 1, 0] rfl ?_
  refine up_to 7 (P := fun i1 => J Γ (mh h0 m ar σ) 0 0 4 [(0, .ref m), (1, .int (m_nr (σ.1 0) i1)), (2, .int (nI i1))] []) ?_ ?_
  · show J Γ (mh h0 m ar σ) 0 0 4 [(0, .ref m), (1, .int (m_nr (σ.1 0) 7)), (2, .int (nI 7))] []
    refine J_iload_n X (dt tX3_nextRun 4 rfl) 2 rfl ?_
    refine J_bipush X (nI 7) (dt tX3_nextRun 5 rfl) (by decide) ?_
    refine J_icmp_ge X 47 (dt tX3_nextRun 6 rfl) (by decide) (fun _ => ?_) (fun c9 => absurd (nI_le (Nat.le_refl 7) (by decide)) c9)
    refine J_iload_n X (dt tX3_nextRun 29 rfl) 1 rfl ?_
    refine S_callS (rest := []) X (dt tX3_nextRun 30 rfl) (c_found l D _ (m_nr (σ.1 0) 7) ) (lw_S q2010 q2011 q86 q2012) okX3_found rfl ⟨Nat.le_of_ble_eq_true rfl, Nat.le_of_ble_eq_true rfl⟩ rfl (Nat.le_of_ble_eq_true rfl) (Nat.zero_le _) (Nat.zero_le _) ?_
    exact J_iret X rr (dt tX3_nextRun 31 rfl) (Nat.zero_le _) (Nat.zero_le _) ⟨rfl, rfl⟩
  · intro i1 hi1 ih
    refine J_iload_n X (dt tX3_nextRun 4 rfl) 2 rfl ?_
    refine J_bipush X (nI 7) (dt tX3_nextRun 5 rfl) (by decide) ?_
    refine J_icmp_ge X 47 (dt tX3_nextRun 6 rfl) (by decide) (fun c9 => absurd c9 (nI_ge hi1 (by decide))) (fun _ => ?_)
    refine J_aload_n X (dt tX3_nextRun 7 rfl) 0 rfl ?_
    refine M_get_all X (dt tX3_nextRun 8 rfl) ?_
    refine J_bipush X (nI 47) (dt tX3_nextRun 9 rfl) (by decide) ?_
    refine J_iload_n X (dt tX3_nextRun 10 rfl) 2 rfl ?_
    refine J_iaddN X (dt tX3_nextRun 11 rfl) ?_
    refine M_ald_all X hd (dt tX3_nextRun 12 rfl) (by omega) ?_
    refine J_istore_n X (lv2 := [(3, .int (σ.1 0 (47 + i1))), (0, .ref m), (1, .int (m_nr (σ.1 0) i1)), (2, .int (nI i1))]) (dt tX3_nextRun 13 rfl) rfl rfl rfl ?_
    refine J_iload_n X (dt tX3_nextRun 14 rfl) 0 rfl ?_
    refine J_iconst X (-1) (dt tX3_nextRun 15 rfl) (by decide) ?_
    have kj6 : ∀ v5 : Int32, v5 = (if (σ.1 0 (47 + i1)) = (-1) then m_nr (σ.1 0) i1 else if (m_nr (σ.1 0) i1) = (-1) then σ.1 0 (47 + i1) else if (m_nr (σ.1 0) i1) ≤ (σ.1 0 (47 + i1)) then m_nr (σ.1 0) i1 else σ.1 0 (47 + i1)) → J Γ (mh h0 m ar σ) 0 0 40 [(3, .int (σ.1 0 (47 + i1))), (0, .ref m), (1, .int (m_nr (σ.1 0) i1)), (2, .int (nI i1))] [.int v5] := by
      intro v5 ev5
      refine J_istore_n X (lv2 := [(1, .int v5), (3, .int (σ.1 0 (47 + i1))), (0, .ref m), (2, .int (nI i1))]) (dt tX3_nextRun 26 rfl) rfl rfl rfl ?_
      refine J_iinc X (lv2 := [(2, .int (nI (i1 + 1))), (1, .int v5), (3, .int (σ.1 0 (47 + i1))), (0, .ref m)]) (dt tX3_nextRun 27 rfl) 3 (nI (i1 + 1)) rfl (nI_add i1 1) rfl rfl ?_
      refine J_goto X (tgt := 4) (dt tX3_nextRun 28 rfl) (by decide) ?_
      refine J_sub [3, 1, 0] rfl ?_
      have e9 : v5 = m_nr (σ.1 0) (i1 + 1) := by rw [m_nr]; exact ev5
      rw [← e9] at ih
      exact ih
    refine J_icmp_eq X 39 (dt tX3_nextRun 16 rfl) (by decide) (fun c2 => ?_) (fun c2 => ?_)
    · refine J_iload_n X (dt tX3_nextRun 25 rfl) 2 rfl ?_
      exact kj6 _ (if_pos c2).symm
    · refine J_iload_n X (dt tX3_nextRun 17 rfl) 2 rfl ?_
      refine J_iconst X (-1) (dt tX3_nextRun 18 rfl) (by decide) ?_
      refine J_icmp_eq X 35 (dt tX3_nextRun 19 rfl) (by decide) (fun c3 => ?_) (fun c3 => ?_)
      · refine J_iload_n X (dt tX3_nextRun 23 rfl) 0 rfl ?_
        refine J_goto X (tgt := 40) (dt tX3_nextRun 24 rfl) (by decide) ?_
        exact kj6 _ ((if_neg c2).trans (if_pos c3)).symm
      · refine J_iload_n X (dt tX3_nextRun 20 rfl) 0 rfl ?_
        refine J_iload_n X (dt tX3_nextRun 21 rfl) 2 rfl ?_
        refine J_icmp_ge X 39 (dt tX3_nextRun 22 rfl) (by decide) (fun c4 => ?_) (fun c4 => ?_)
        · refine J_iload_n X (dt tX3_nextRun 25 rfl) 2 rfl ?_
          exact kj6 _ ((if_neg c2).trans ((if_neg c3).trans (if_pos c4))).symm
        · refine J_iload_n X (dt tX3_nextRun 23 rfl) 0 rfl ?_
          refine J_goto X (tgt := 40) (dt tX3_nextRun 24 rfl) (by decide) ?_
          exact kj6 _ ((if_neg c2).trans ((if_neg c3).trans (if_neg c4))).symm
def m_leadsAt (σ : MS) (x : Int32) : Int32 := if m_in x.toInt64 (σ.1 0 0).toInt64 20000 = 0 then -10000001 else m_found (m_leaderBehind σ (x - σ.1 0 0))
abbrev cX3_leadsAt : ByteArray := prog_12_method_41_code
def yX3_leadsAt : MethodName := ⟨RX3, "leadsAt", "(I)I"⟩
theorem tX3_leadsAt : dtab cX3_leadsAt [(0, .iload_n 1, 1, 1), (1, .i2l, 1, 2), (2, .aload_n 0, 1, 3), (3, .getfield 7, 3, 6), (6, .iconst 0, 1, 7), (7, .iaload, 1, 8), (8, .i2l, 1, 9), (9, .ldc2_w 149, 3, 12), (12, .invokestatic 35, 3, 15), (15, .ifCond .eq 21, 3, 18), (18, .aload_n 0, 1, 19), (19, .iload_n 1, 1, 20), (20, .aload_n 0, 1, 21), (21, .getfield 7, 3, 24), (24, .iconst 0, 1, 25), (25, .iaload, 1, 26), (26, .isub, 1, 27), (27, .invokevirtual 151, 3, 30), (30, .invokestatic 137, 3, 33), (33, .goto 5, 3, 36), (36, .ldc 28, 2, 38), (38, .ireturn, 1, 39)] := by unfold dtab; decide +kernel
theorem okX3_leadsAt : okY yX3_leadsAt 1 := by decide +kernel
set_option maxHeartbeats 4000000 in
theorem c_leadsAt (l : Launch) (D : va_G) {h0 : PH} {m : Nat} {ar : Nat → Nat} (hd : md m ar) (σ : MS) (x : Int32)  : Ct l D yX3_leadsAt cX3_leadsAt 2 (some .int) (rmM 3 69) [.ref m, .int x] (mh h0 m ar σ) (PM h0 m ar (some (.int (m_leadsAt σ x))) σ) := by
  refine Ct.of (by decide) rfl (fun Γ X rr hmn => ?_)
  have X : Cx l D cX3_leadsAt RX3 2 (rmM 3 69) Γ := X
  show J Γ (mh h0 m ar σ) 0 0 0 [(0, .ref m), (1, .int x)] []
  refine J_iload_n X (dt tX3_leadsAt 0 rfl) 1 rfl ?_
  refine J_i2l X (dt tX3_leadsAt 1 rfl) ?_
  refine J_aload_n X (dt tX3_leadsAt 2 rfl) 0 rfl ?_
  refine M_get_all X (dt tX3_leadsAt 3 rfl) ?_
  refine J_iconst X (nI 0) (dt tX3_leadsAt 4 rfl) (by decide) ?_
  refine M_ald_all X hd (dt tX3_leadsAt 5 rfl) (by decide) ?_
  refine J_i2l X (dt tX3_leadsAt 6 rfl) ?_
  refine J_ldc2 X (dt tX3_leadsAt 7 rfl) q2037 ?_
  refine S_callS (rest := []) X (dt tX3_leadsAt 8 rfl) (c_in l D _ x.toInt64 ((σ.1 0 0).toInt64) (20000) ) (lw_S q1893 q1894 q86 q1895) okX3_in rfl ⟨Nat.le_of_ble_eq_true rfl, Nat.le_of_ble_eq_true rfl⟩ rfl (Nat.le_of_ble_eq_true rfl) (Nat.zero_le _) (Nat.zero_le _) ?_
  have kj3 : ∀ v2 : Int32, v2 = (if (m_in x.toInt64 ((σ.1 0 0).toInt64) (20000)) = 0 then (-10000001) else m_found (m_leaderBehind σ (x - (σ.1 0 0)))) → J Γ (mh h0 m ar σ) 0 0 38 [(0, .ref m), (1, .int x)] [.int v2] := by
    intro v2 ev2
    exact J_iret X rr (dt tX3_leadsAt 21 rfl) (Nat.zero_le _) (Nat.zero_le _) (by subst_vars; exact ⟨rfl, rfl⟩)
  refine J_if_eq X 36 (dt tX3_leadsAt 9 rfl) (by decide) (fun c1 => ?_) (fun c1 => ?_)
  · refine J_ldc X (dt tX3_leadsAt 20 rfl) q1903 ?_
    exact kj3 _ (if_pos c1).symm
  · refine J_aload_n X (dt tX3_leadsAt 10 rfl) 0 rfl ?_
    refine J_iload_n X (dt tX3_leadsAt 11 rfl) 1 rfl ?_
    refine J_aload_n X (dt tX3_leadsAt 12 rfl) 0 rfl ?_
    refine M_get_all X (dt tX3_leadsAt 13 rfl) ?_
    refine J_iconst X (nI 0) (dt tX3_leadsAt 14 rfl) (by decide) ?_
    refine M_ald_all X hd (dt tX3_leadsAt 15 rfl) (by decide) ?_
    refine J_isub X (dt tX3_leadsAt 16 rfl) ?_
    refine M_callV (rest := []) X (dt tX3_leadsAt 17 rfl) (c_leaderBehind l D hd σ (x - (σ.1 0 0)) ) (lw_V q2038 q2040 qs58 q86 q2041) okX3_leaderBehind rfl rfl ⟨Nat.le_of_ble_eq_true rfl, Nat.le_of_ble_eq_true rfl⟩ rfl (Nat.le_of_ble_eq_true rfl) (Nat.zero_le _) (Nat.zero_le _) ?_
    refine S_callS (rest := []) X (dt tX3_leadsAt 18 rfl) (c_found l D _ (m_leaderBehind σ (x - (σ.1 0 0))) ) (lw_S q2010 q2011 q86 q2012) okX3_found rfl ⟨Nat.le_of_ble_eq_true rfl, Nat.le_of_ble_eq_true rfl⟩ rfl (Nat.le_of_ble_eq_true rfl) (Nat.zero_le _) (Nat.zero_le _) ?_
    refine J_goto X (tgt := 38) (dt tX3_leadsAt 19 rfl) (by decide) ?_
    exact kj3 _ (if_neg c1).symm
def rn (x : Int32) : Option Nat := if m_in x.toInt64 0 6 = 0 then none else some x.toNatClampNeg
theorem rn_none {x : Int32} (h : rn x = none) : m_in x.toInt64 0 6 = 0 := by
  unfold rn at h
  by_cases h1 : m_in x.toInt64 0 6 = 0
  · exact h1
  · rw [if_neg h1] at h; cases h
theorem rn_some {x : Int32} {j : Nat} (h : rn x = some j) : j < 7 ∧ x = nI j := by
  unfold rn at h
  by_cases h1 : m_in x.toInt64 0 6 = 0
  · rw [if_pos h1] at h; cases h
  · rw [if_neg h1] at h
    rw [m_in_iff, Int32.toInt_toInt64] at h1
    have a1 : (0 : Int64).toInt = 0 := by decide
    have a2 : (6 : Int64).toInt = 6 := by decide
    rw [a1, a2] at h1
    obtain ⟨i, hi, rfl⟩ := nI_of (x := x) (by rw [Int32.lt_iff_toInt_lt, Int32.toInt_zero]; omega)
    rw [nI_toInt hi] at h1
    rw [nI_clamp hi] at h
    cases h
    exact ⟨by omega, rfl⟩
theorem m_in06 {j : Nat} (h : j < 7) : m_in (nI j).toInt64 0 6 = nI 1 := by
  refine (m_in_B _ _ _).resolve_left ?_
  rw [m_in_iff, Int32.toInt_toInt64, nI_toInt (by omega)]
  have a1 : (0 : Int64).toInt = 0 := by decide
  have a2 : (6 : Int64).toInt = 6 := by decide
  rw [a1, a2]
  omega
def m_raceOf (σ : MS) (x y : Int32) : Int32 := match rn x with
  | none => -10000001
  | some r => if m_in y.toInt64 0 4 = 0 then -10000001 else if y = nI 0 then m_found (σ.1 0 (33 + r)) else if y = nI 1 then m_found (σ.1 0 (40 + r)) else if y = nI 2 then m_found (σ.1 0 (47 + r)) else if y = nI 3 then σ.1 0 (54 + r) else m_found (σ.1 0 (61 + r))
def m_ldx (σ : MS) : Nat := match lo (m_leaderNow σ) with
  | none => 8
  | some j => 9 + j
def m_runnerOf (σ : MS) (x y : Int32) : Int32 := match ln x with
  | none => -10000001
  | some j => if m_in y.toInt64 0 4 = 0 then -10000001 else if m_has σ j = 0 then -10000004 else if y = nI 0 then σ.1 0 (9 + j) else if y = nI 1 then σ.1 0 (17 + j) else if y = nI 2 then m_rk σ j 8 else if y = nI 3 then σ.1 0 (m_ldx σ) - σ.1 0 (9 + j) else σ.1 0 (25 + j)
abbrev cX3_raceOf : ByteArray := prog_12_method_35_code
def yX3_raceOf : MethodName := ⟨RX3, "raceOf", "(II)I"⟩
theorem tX3_raceOf : dtab cX3_raceOf [(0, .iload_n 1, 1, 1), (1, .i2l, 1, 2), (2, .lconst 0, 1, 3), (3, .ldc2_w 135, 3, 6), (6, .invokestatic 35, 3, 9), (9, .ifCond .eq 15, 3, 12), (12, .iload_n 2, 1, 13), (13, .i2l, 1, 14), (14, .lconst 0, 1, 15), (15, .ldc2_w 129, 3, 18), (18, .invokestatic 35, 3, 21), (21, .ifCond .ne 6, 3, 24), (24, .ldc 28, 2, 26), (26, .ireturn, 1, 27), (27, .iload_n 2, 1, 28), (28, .tableswitch 81 0 3 #[32, 45, 58, 71], 32, 60), (60, .aload_n 0, 1, 61), (61, .getfield 7, 3, 64), (64, .bipush 33, 2, 66), (66, .iload_n 1, 1, 67), (67, .iadd, 1, 68), (68, .iaload, 1, 69), (69, .invokestatic 137, 3, 72), (72, .ireturn, 1, 73), (73, .aload_n 0, 1, 74), (74, .getfield 7, 3, 77), (77, .bipush 40, 2, 79), (79, .iload_n 1, 1, 80), (80, .iadd, 1, 81), (81, .iaload, 1, 82), (82, .invokestatic 137, 3, 85), (85, .ireturn, 1, 86), (86, .aload_n 0, 1, 87), (87, .getfield 7, 3, 90), (90, .bipush 47, 2, 92), (92, .iload_n 1, 1, 93), (93, .iadd, 1, 94), (94, .iaload, 1, 95), (95, .invokestatic 137, 3, 98), (98, .ireturn, 1, 99), (99, .aload_n 0, 1, 100), (100, .getfield 7, 3, 103), (103, .bipush 54, 2, 105), (105, .iload_n 1, 1, 106), (106, .iadd, 1, 107), (107, .iaload, 1, 108), (108, .ireturn, 1, 109), (109, .aload_n 0, 1, 110), (110, .getfield 7, 3, 113), (113, .bipush 61, 2, 115), (115, .iload_n 1, 1, 116), (116, .iadd, 1, 117), (117, .iaload, 1, 118), (118, .invokestatic 137, 3, 121), (121, .ireturn, 1, 122)] := by unfold dtab; decide +kernel
theorem okX3_raceOf : okY yX3_raceOf 2 := by decide +kernel
set_option maxHeartbeats 4000000 in
theorem c_raceOf (l : Launch) (D : va_G) {h0 : PH} {m : Nat} {ar : Nat → Nat} (hd : md m ar) (σ : MS) (x : Int32) (y : Int32)  : Ct l D yX3_raceOf cX3_raceOf 3 (some .int) (rmM 1 25) [.ref m, .int x, .int y] (mh h0 m ar σ) (PM h0 m ar (some (.int (m_raceOf σ x y))) σ) := by
  refine Ct.of (by decide) rfl (fun Γ X rr hmn => ?_)
  have X : Cx l D cX3_raceOf RX3 3 (rmM 1 25) Γ := X
  show J Γ (mh h0 m ar σ) 0 0 0 [(0, .ref m), (1, .int x), (2, .int y)] []
  cases hl : rn x with
  | none =>
    refine J_iload_n X (dt tX3_raceOf 0 rfl) 1 rfl ?_
    refine J_i2l X (dt tX3_raceOf 1 rfl) ?_
    refine J_lconst X 0 (dt tX3_raceOf 2 rfl) (by decide) ?_
    refine J_ldc2 X (dt tX3_raceOf 3 rfl) q2009 ?_
    refine S_callS (rest := []) X (dt tX3_raceOf 4 rfl) (c_in l D _ x.toInt64 0 (6) ) (lw_S q1893 q1894 q86 q1895) okX3_in rfl ⟨Nat.le_of_ble_eq_true rfl, Nat.le_of_ble_eq_true rfl⟩ rfl (Nat.le_of_ble_eq_true rfl) (Nat.zero_le _) (Nat.zero_le _) ?_
    refine J_topi (rn_none hl) ?_
    refine J_if_eq X 24 (dt tX3_raceOf 5 rfl) (by decide) (fun _ => ?_) (fun c9 => absurd (rfl) c9)
    refine J_ldc X (dt tX3_raceOf 12 rfl) q1903 ?_
    exact J_iret X rr (dt tX3_raceOf 13 rfl) (Nat.zero_le _) (Nat.zero_le _) ⟨congrArg (fun z => some (Value.int z)) (by unfold m_raceOf; rw [hl]), rfl⟩
  | some j =>
    obtain ⟨hj, rfl⟩ := rn_some hl
    refine J_iload_n X (dt tX3_raceOf 0 rfl) 1 rfl ?_
    refine J_i2l X (dt tX3_raceOf 1 rfl) ?_
    refine J_lconst X 0 (dt tX3_raceOf 2 rfl) (by decide) ?_
    refine J_ldc2 X (dt tX3_raceOf 3 rfl) q2009 ?_
    refine S_callS (rest := []) X (dt tX3_raceOf 4 rfl) (c_in l D _ ((nI j).toInt64) 0 (6) ) (lw_S q1893 q1894 q86 q1895) okX3_in rfl ⟨Nat.le_of_ble_eq_true rfl, Nat.le_of_ble_eq_true rfl⟩ rfl (Nat.le_of_ble_eq_true rfl) (Nat.zero_le _) (Nat.zero_le _) ?_
    refine J_topi (m_in06 hj) ?_
    refine J_if_eq X 24 (dt tX3_raceOf 5 rfl) (by decide) (fun c9 => absurd c9 ((by decide))) (fun _ => ?_)
    refine J_iload_n X (dt tX3_raceOf 6 rfl) 2 rfl ?_
    refine J_i2l X (dt tX3_raceOf 7 rfl) ?_
    refine J_lconst X 0 (dt tX3_raceOf 8 rfl) (by decide) ?_
    refine J_ldc2 X (dt tX3_raceOf 9 rfl) q1999 ?_
    refine S_callS (rest := []) X (dt tX3_raceOf 10 rfl) (c_in l D _ y.toInt64 0 (4) ) (lw_S q1893 q1894 q86 q1895) okX3_in rfl ⟨Nat.le_of_ble_eq_true rfl, Nat.le_of_ble_eq_true rfl⟩ rfl (Nat.le_of_ble_eq_true rfl) (Nat.zero_le _) (Nat.zero_le _) ?_
    refine J_if_ne X 27 (dt tX3_raceOf 11 rfl) (by decide) (fun c1 => ?_) (fun c1 => ?_)
    · refine J_iload_n X (dt tX3_raceOf 14 rfl) 2 rfl ?_
      by_cases e28_0 : y = nI 0
      · subst e28_0
        refine J_tableIn X 60 (dt tX3_raceOf 15 rfl) (by decide) (by decide) rfl (by decide) ?_
        refine J_aload_n X (dt tX3_raceOf 16 rfl) 0 rfl ?_
        refine M_get_all X (dt tX3_raceOf 17 rfl) ?_
        refine J_bipush X (nI 33) (dt tX3_raceOf 18 rfl) (by decide) ?_
        refine J_iload_n X (dt tX3_raceOf 19 rfl) 1 rfl ?_
        refine J_iaddN X (dt tX3_raceOf 20 rfl) ?_
        refine M_ald_all X hd (dt tX3_raceOf 21 rfl) (by omega) ?_
        refine S_callS (rest := []) X (dt tX3_raceOf 22 rfl) (c_found l D _ (σ.1 0 (33 + j)) ) (lw_S q2010 q2011 q86 q2012) okX3_found rfl ⟨Nat.le_of_ble_eq_true rfl, Nat.le_of_ble_eq_true rfl⟩ rfl (Nat.le_of_ble_eq_true rfl) (Nat.zero_le _) (Nat.zero_le _) ?_
        exact J_iret X rr (dt tX3_raceOf 23 rfl) (Nat.zero_le _) (Nat.zero_le _) ⟨congrArg (fun z => some (Value.int z)) (by unfold m_raceOf; rw [hl]; exact ((if_neg c1).trans (if_pos rfl)).symm), rfl⟩
      · skip
        by_cases e28_1 : y = nI 1
        · subst e28_1
          refine J_tableIn X 73 (dt tX3_raceOf 15 rfl) (by decide) (by decide) rfl (by decide) ?_
          refine J_aload_n X (dt tX3_raceOf 24 rfl) 0 rfl ?_
          refine M_get_all X (dt tX3_raceOf 25 rfl) ?_
          refine J_bipush X (nI 40) (dt tX3_raceOf 26 rfl) (by decide) ?_
          refine J_iload_n X (dt tX3_raceOf 27 rfl) 1 rfl ?_
          refine J_iaddN X (dt tX3_raceOf 28 rfl) ?_
          refine M_ald_all X hd (dt tX3_raceOf 29 rfl) (by omega) ?_
          refine S_callS (rest := []) X (dt tX3_raceOf 30 rfl) (c_found l D _ (σ.1 0 (40 + j)) ) (lw_S q2010 q2011 q86 q2012) okX3_found rfl ⟨Nat.le_of_ble_eq_true rfl, Nat.le_of_ble_eq_true rfl⟩ rfl (Nat.le_of_ble_eq_true rfl) (Nat.zero_le _) (Nat.zero_le _) ?_
          exact J_iret X rr (dt tX3_raceOf 31 rfl) (Nat.zero_le _) (Nat.zero_le _) ⟨congrArg (fun z => some (Value.int z)) (by unfold m_raceOf; rw [hl]; exact ((if_neg c1).trans ((if_neg e28_0).trans (if_pos rfl))).symm), rfl⟩
        · skip
          by_cases e28_2 : y = nI 2
          · subst e28_2
            refine J_tableIn X 86 (dt tX3_raceOf 15 rfl) (by decide) (by decide) rfl (by decide) ?_
            refine J_aload_n X (dt tX3_raceOf 32 rfl) 0 rfl ?_
            refine M_get_all X (dt tX3_raceOf 33 rfl) ?_
            refine J_bipush X (nI 47) (dt tX3_raceOf 34 rfl) (by decide) ?_
            refine J_iload_n X (dt tX3_raceOf 35 rfl) 1 rfl ?_
            refine J_iaddN X (dt tX3_raceOf 36 rfl) ?_
            refine M_ald_all X hd (dt tX3_raceOf 37 rfl) (by omega) ?_
            refine S_callS (rest := []) X (dt tX3_raceOf 38 rfl) (c_found l D _ (σ.1 0 (47 + j)) ) (lw_S q2010 q2011 q86 q2012) okX3_found rfl ⟨Nat.le_of_ble_eq_true rfl, Nat.le_of_ble_eq_true rfl⟩ rfl (Nat.le_of_ble_eq_true rfl) (Nat.zero_le _) (Nat.zero_le _) ?_
            exact J_iret X rr (dt tX3_raceOf 39 rfl) (Nat.zero_le _) (Nat.zero_le _) ⟨congrArg (fun z => some (Value.int z)) (by unfold m_raceOf; rw [hl]; exact ((if_neg c1).trans ((if_neg e28_0).trans ((if_neg e28_1).trans (if_pos rfl)))).symm), rfl⟩
          · skip
            by_cases e28_3 : y = nI 3
            · subst e28_3
              refine J_tableIn X 99 (dt tX3_raceOf 15 rfl) (by decide) (by decide) rfl (by decide) ?_
              refine J_aload_n X (dt tX3_raceOf 40 rfl) 0 rfl ?_
              refine M_get_all X (dt tX3_raceOf 41 rfl) ?_
              refine J_bipush X (nI 54) (dt tX3_raceOf 42 rfl) (by decide) ?_
              refine J_iload_n X (dt tX3_raceOf 43 rfl) 1 rfl ?_
              refine J_iaddN X (dt tX3_raceOf 44 rfl) ?_
              refine M_ald_all X hd (dt tX3_raceOf 45 rfl) (by omega) ?_
              exact J_iret X rr (dt tX3_raceOf 46 rfl) (Nat.zero_le _) (Nat.zero_le _) ⟨congrArg (fun z => some (Value.int z)) (by unfold m_raceOf; rw [hl]; exact ((if_neg c1).trans ((if_neg e28_0).trans ((if_neg e28_1).trans ((if_neg e28_2).trans (if_pos rfl))))).symm), rfl⟩
            · skip
              refine J_tableOut X 109 (dt tX3_raceOf 15 rfl) (sw_out 3 (fun k hk => by rcases (show k = 0 ∨ k = 1 ∨ k = 2 ∨ k = 3 by omega) with rfl | rfl | rfl | rfl <;> assumption)) (by decide) ?_
              refine J_aload_n X (dt tX3_raceOf 47 rfl) 0 rfl ?_
              refine M_get_all X (dt tX3_raceOf 48 rfl) ?_
              refine J_bipush X (nI 61) (dt tX3_raceOf 49 rfl) (by decide) ?_
              refine J_iload_n X (dt tX3_raceOf 50 rfl) 1 rfl ?_
              refine J_iaddN X (dt tX3_raceOf 51 rfl) ?_
              refine M_ald_all X hd (dt tX3_raceOf 52 rfl) (by omega) ?_
              refine S_callS (rest := []) X (dt tX3_raceOf 53 rfl) (c_found l D _ (σ.1 0 (61 + j)) ) (lw_S q2010 q2011 q86 q2012) okX3_found rfl ⟨Nat.le_of_ble_eq_true rfl, Nat.le_of_ble_eq_true rfl⟩ rfl (Nat.le_of_ble_eq_true rfl) (Nat.zero_le _) (Nat.zero_le _) ?_
              exact J_iret X rr (dt tX3_raceOf 54 rfl) (Nat.zero_le _) (Nat.zero_le _) ⟨congrArg (fun z => some (Value.int z)) (by unfold m_raceOf; rw [hl]; exact ((if_neg c1).trans ((if_neg e28_0).trans ((if_neg e28_1).trans ((if_neg e28_2).trans (if_neg e28_3))))).symm), rfl⟩
    · refine J_ldc X (dt tX3_raceOf 12 rfl) q1903 ?_
      exact J_iret X rr (dt tX3_raceOf 13 rfl) (Nat.zero_le _) (Nat.zero_le _) ⟨congrArg (fun z => some (Value.int z)) (by unfold m_raceOf; rw [hl]; exact (if_pos c1).symm), rfl⟩
abbrev cX3_runnerOf : ByteArray := prog_12_method_33_code
def yX3_runnerOf : MethodName := ⟨RX3, "runnerOf", "(II)I"⟩
theorem tX3_runnerOf : dtab cX3_runnerOf [(0, .iload_n 1, 1, 1), (1, .invokestatic 75, 3, 4), (4, .ifCond .eq 15, 3, 7), (7, .iload_n 2, 1, 8), (8, .i2l, 1, 9), (9, .lconst 0, 1, 10), (10, .ldc2_w 129, 3, 13), (13, .invokestatic 35, 3, 16), (16, .ifCond .ne 6, 3, 19), (19, .ldc 28, 2, 21), (21, .ireturn, 1, 22), (22, .aload_n 0, 1, 23), (23, .iload_n 1, 1, 24), (24, .invokevirtual 47, 3, 27), (27, .ifCond .ne 6, 3, 30), (30, .ldc 131, 2, 32), (32, .ireturn, 1, 33), (33, .iload_n 2, 1, 34), (34, .tableswitch 79 0 3 #[30, 40, 50, 56], 30, 64), (64, .aload_n 0, 1, 65), (65, .getfield 7, 3, 68), (68, .bipush 9, 2, 70), (70, .iload_n 1, 1, 71), (71, .iadd, 1, 72), (72, .iaload, 1, 73), (73, .ireturn, 1, 74), (74, .aload_n 0, 1, 75), (75, .getfield 7, 3, 78), (78, .bipush 17, 2, 80), (80, .iload_n 1, 1, 81), (81, .iadd, 1, 82), (82, .iaload, 1, 83), (83, .ireturn, 1, 84), (84, .aload_n 0, 1, 85), (85, .iload_n 1, 1, 86), (86, .invokevirtual 132, 3, 89), (89, .ireturn, 1, 90), (90, .aload_n 0, 1, 91), (91, .getfield 7, 3, 94), (94, .bipush 9, 2, 96), (96, .aload_n 0, 1, 97), (97, .invokevirtual 61, 3, 100), (100, .iadd, 1, 101), (101, .iaload, 1, 102), (102, .aload_n 0, 1, 103), (103, .getfield 7, 3, 106), (106, .bipush 9, 2, 108), (108, .iload_n 1, 1, 109), (109, .iadd, 1, 110), (110, .iaload, 1, 111), (111, .isub, 1, 112), (112, .ireturn, 1, 113), (113, .aload_n 0, 1, 114), (114, .getfield 7, 3, 117), (117, .bipush 25, 2, 119), (119, .iload_n 1, 1, 120), (120, .iadd, 1, 121), (121, .iaload, 1, 122), (122, .ireturn, 1, 123)] := by unfold dtab; decide +kernel
theorem okX3_runnerOf : okY yX3_runnerOf 2 := by decide +kernel
set_option maxHeartbeats 4000000 in
theorem c_runnerOf (l : Launch) (D : va_G) {h0 : PH} {m : Nat} {ar : Nat → Nat} (hd : md m ar) (σ : MS) (x : Int32) (y : Int32) (hW : WF σ) : Ct l D yX3_runnerOf cX3_runnerOf 3 (some .int) (rmM 3 69) [.ref m, .int x, .int y] (mh h0 m ar σ) (PM h0 m ar (some (.int (m_runnerOf σ x y))) σ) := by
  refine Ct.of (by decide) rfl (fun Γ X rr hmn => ?_)
  have X : Cx l D cX3_runnerOf RX3 3 (rmM 3 69) Γ := X
  show J Γ (mh h0 m ar σ) 0 0 0 [(0, .ref m), (1, .int x), (2, .int y)] []
  cases hl : ln x with
  | none =>
    refine J_iload_n X (dt tX3_runnerOf 0 rfl) 1 rfl ?_
    refine S_callS (rest := []) X (dt tX3_runnerOf 1 rfl) (c_isLane l D _ x ) (lw_S q1889 q1890 q86 q1891) okX3_isLane rfl ⟨Nat.le_of_ble_eq_true rfl, Nat.le_of_ble_eq_true rfl⟩ rfl (Nat.le_of_ble_eq_true rfl) (Nat.zero_le _) (Nat.zero_le _) ?_
    refine J_topi (ln_none hl) ?_
    refine J_if_eq X 19 (dt tX3_runnerOf 2 rfl) (by decide) (fun _ => ?_) (fun c9 => absurd (rfl) c9)
    refine J_ldc X (dt tX3_runnerOf 9 rfl) q1903 ?_
    exact J_iret X rr (dt tX3_runnerOf 10 rfl) (Nat.zero_le _) (Nat.zero_le _) ⟨congrArg (fun z => some (Value.int z)) (by unfold m_runnerOf; rw [hl]), rfl⟩
  | some j =>
    obtain ⟨hj, rfl⟩ := ln_some hl
    refine J_iload_n X (dt tX3_runnerOf 0 rfl) 1 rfl ?_
    refine S_callS (rest := []) X (dt tX3_runnerOf 1 rfl) (c_isLane l D _ (nI j) ) (lw_S q1889 q1890 q86 q1891) okX3_isLane rfl ⟨Nat.le_of_ble_eq_true rfl, Nat.le_of_ble_eq_true rfl⟩ rfl (Nat.le_of_ble_eq_true rfl) (Nat.zero_le _) (Nat.zero_le _) ?_
    refine J_topi (m_isLane_in hj) ?_
    refine J_if_eq X 19 (dt tX3_runnerOf 2 rfl) (by decide) (fun c9 => absurd c9 ((by decide))) (fun _ => ?_)
    refine J_iload_n X (dt tX3_runnerOf 3 rfl) 2 rfl ?_
    refine J_i2l X (dt tX3_runnerOf 4 rfl) ?_
    refine J_lconst X 0 (dt tX3_runnerOf 5 rfl) (by decide) ?_
    refine J_ldc2 X (dt tX3_runnerOf 6 rfl) q1999 ?_
    refine S_callS (rest := []) X (dt tX3_runnerOf 7 rfl) (c_in l D _ y.toInt64 0 (4) ) (lw_S q1893 q1894 q86 q1895) okX3_in rfl ⟨Nat.le_of_ble_eq_true rfl, Nat.le_of_ble_eq_true rfl⟩ rfl (Nat.le_of_ble_eq_true rfl) (Nat.zero_le _) (Nat.zero_le _) ?_
    refine J_if_ne X 22 (dt tX3_runnerOf 8 rfl) (by decide) (fun c1 => ?_) (fun c1 => ?_)
    · refine J_aload_n X (dt tX3_runnerOf 11 rfl) 0 rfl ?_
      refine J_iload_n X (dt tX3_runnerOf 12 rfl) 1 rfl ?_
      refine M_callV (rest := []) X (dt tX3_runnerOf 13 rfl) (c_has l D hd σ j (by omega)) (lw_V q1904 q1906 qs38 q86 q1907) okX3_has rfl rfl ⟨Nat.le_of_ble_eq_true rfl, Nat.le_of_ble_eq_true rfl⟩ rfl (Nat.le_of_ble_eq_true rfl) (Nat.zero_le _) (Nat.zero_le _) ?_
      refine J_if_ne X 33 (dt tX3_runnerOf 14 rfl) (by decide) (fun c2 => ?_) (fun c2 => ?_)
      · refine J_iload_n X (dt tX3_runnerOf 17 rfl) 2 rfl ?_
        by_cases e34_0 : y = nI 0
        · subst e34_0
          refine J_tableIn X 64 (dt tX3_runnerOf 18 rfl) (by decide) (by decide) rfl (by decide) ?_
          refine J_aload_n X (dt tX3_runnerOf 19 rfl) 0 rfl ?_
          refine M_get_all X (dt tX3_runnerOf 20 rfl) ?_
          refine J_bipush X (nI 9) (dt tX3_runnerOf 21 rfl) (by decide) ?_
          refine J_iload_n X (dt tX3_runnerOf 22 rfl) 1 rfl ?_
          refine J_iaddN X (dt tX3_runnerOf 23 rfl) ?_
          refine M_ald_all X hd (dt tX3_runnerOf 24 rfl) (by omega) ?_
          exact J_iret X rr (dt tX3_runnerOf 25 rfl) (Nat.zero_le _) (Nat.zero_le _) ⟨congrArg (fun z => some (Value.int z)) (by unfold m_runnerOf; rw [hl]; exact ((if_neg c1).trans ((if_neg c2).trans (if_pos rfl))).symm), rfl⟩
        · skip
          by_cases e34_1 : y = nI 1
          · subst e34_1
            refine J_tableIn X 74 (dt tX3_runnerOf 18 rfl) (by decide) (by decide) rfl (by decide) ?_
            refine J_aload_n X (dt tX3_runnerOf 26 rfl) 0 rfl ?_
            refine M_get_all X (dt tX3_runnerOf 27 rfl) ?_
            refine J_bipush X (nI 17) (dt tX3_runnerOf 28 rfl) (by decide) ?_
            refine J_iload_n X (dt tX3_runnerOf 29 rfl) 1 rfl ?_
            refine J_iaddN X (dt tX3_runnerOf 30 rfl) ?_
            refine M_ald_all X hd (dt tX3_runnerOf 31 rfl) (by omega) ?_
            exact J_iret X rr (dt tX3_runnerOf 32 rfl) (Nat.zero_le _) (Nat.zero_le _) ⟨congrArg (fun z => some (Value.int z)) (by unfold m_runnerOf; rw [hl]; exact ((if_neg c1).trans ((if_neg c2).trans ((if_neg e34_0).trans (if_pos rfl)))).symm), rfl⟩
          · skip
            by_cases e34_2 : y = nI 2
            · subst e34_2
              refine J_tableIn X 84 (dt tX3_runnerOf 18 rfl) (by decide) (by decide) rfl (by decide) ?_
              refine J_aload_n X (dt tX3_runnerOf 33 rfl) 0 rfl ?_
              refine J_iload_n X (dt tX3_runnerOf 34 rfl) 1 rfl ?_
              refine M_callV (rest := []) X (dt tX3_runnerOf 35 rfl) (c_rank l D hd σ j (by omega)) (lw_V q2001 q2003 qs55 q86 q2004) okX3_rank rfl rfl ⟨Nat.le_of_ble_eq_true rfl, Nat.le_of_ble_eq_true rfl⟩ rfl (Nat.le_of_ble_eq_true rfl) (Nat.zero_le _) (Nat.zero_le _) ?_
              exact J_iret X rr (dt tX3_runnerOf 36 rfl) (Nat.zero_le _) (Nat.zero_le _) ⟨congrArg (fun z => some (Value.int z)) (by unfold m_runnerOf; rw [hl]; exact ((if_neg c1).trans ((if_neg c2).trans ((if_neg e34_0).trans ((if_neg e34_1).trans (if_pos rfl))))).symm), rfl⟩
            · skip
              by_cases e34_3 : y = nI 3
              · subst e34_3
                refine J_tableIn X 90 (dt tX3_runnerOf 18 rfl) (by decide) (by decide) rfl (by decide) ?_
                rcases hW.leader with hd9 | ⟨jl, hjl, hd9⟩
                · have hx9 : m_ldx σ = 8 := by unfold m_ldx; rw [hd9, lo_m1]
                  refine J_aload_n X (dt tX3_runnerOf 37 rfl) 0 rfl ?_
                  refine M_get_all X (dt tX3_runnerOf 38 rfl) ?_
                  refine J_bipush X (nI 9) (dt tX3_runnerOf 39 rfl) (by decide) ?_
                  refine J_aload_n X (dt tX3_runnerOf 40 rfl) 0 rfl ?_
                  refine M_callV (rest := [.int (nI 9), .ref (ar 0)]) X (dt tX3_runnerOf 41 rfl) (c_leaderNow l D hd σ ) (lw_V q1937 q1939 qs46 q86 q1940) okX3_leaderNow rfl rfl ⟨Nat.le_of_ble_eq_true rfl, Nat.le_of_ble_eq_true rfl⟩ rfl (Nat.le_of_ble_eq_true rfl) (Nat.zero_le _) (Nat.zero_le _) ?_
                  refine J_topi hd9 ?_
                  refine J_iadd X (dt tX3_runnerOf 42 rfl) ?_
                  refine J_topi (y := nI 8) (rfl) ?_
                  refine M_ald_all X hd (dt tX3_runnerOf 43 rfl) (by decide) ?_
                  refine J_aload_n X (dt tX3_runnerOf 44 rfl) 0 rfl ?_
                  refine M_get_all X (dt tX3_runnerOf 45 rfl) ?_
                  refine J_bipush X (nI 9) (dt tX3_runnerOf 46 rfl) (by decide) ?_
                  refine J_iload_n X (dt tX3_runnerOf 47 rfl) 1 rfl ?_
                  refine J_iaddN X (dt tX3_runnerOf 48 rfl) ?_
                  refine M_ald_all X hd (dt tX3_runnerOf 49 rfl) (by omega) ?_
                  refine J_isub X (dt tX3_runnerOf 50 rfl) ?_
                  exact J_iret X rr (dt tX3_runnerOf 51 rfl) (Nat.zero_le _) (Nat.zero_le _) ⟨congrArg (fun z => some (Value.int z)) (by unfold m_runnerOf; rw [hl, ← hx9]; exact ((if_neg c1).trans ((if_neg c2).trans ((if_neg e34_0).trans ((if_neg e34_1).trans ((if_neg e34_2).trans (if_pos rfl)))))).symm), rfl⟩
                · have hx9 : m_ldx σ = 9 + jl := by unfold m_ldx; rw [hd9, lo_nI (by omega)]
                  refine J_aload_n X (dt tX3_runnerOf 37 rfl) 0 rfl ?_
                  refine M_get_all X (dt tX3_runnerOf 38 rfl) ?_
                  refine J_bipush X (nI 9) (dt tX3_runnerOf 39 rfl) (by decide) ?_
                  refine J_aload_n X (dt tX3_runnerOf 40 rfl) 0 rfl ?_
                  refine M_callV (rest := [.int (nI 9), .ref (ar 0)]) X (dt tX3_runnerOf 41 rfl) (c_leaderNow l D hd σ ) (lw_V q1937 q1939 qs46 q86 q1940) okX3_leaderNow rfl rfl ⟨Nat.le_of_ble_eq_true rfl, Nat.le_of_ble_eq_true rfl⟩ rfl (Nat.le_of_ble_eq_true rfl) (Nat.zero_le _) (Nat.zero_le _) ?_
                  refine J_topi hd9 ?_
                  refine J_iaddN X (dt tX3_runnerOf 42 rfl) ?_
                  refine M_ald_all X hd (dt tX3_runnerOf 43 rfl) (by omega) ?_
                  refine J_aload_n X (dt tX3_runnerOf 44 rfl) 0 rfl ?_
                  refine M_get_all X (dt tX3_runnerOf 45 rfl) ?_
                  refine J_bipush X (nI 9) (dt tX3_runnerOf 46 rfl) (by decide) ?_
                  refine J_iload_n X (dt tX3_runnerOf 47 rfl) 1 rfl ?_
                  refine J_iaddN X (dt tX3_runnerOf 48 rfl) ?_
                  refine M_ald_all X hd (dt tX3_runnerOf 49 rfl) (by omega) ?_
                  refine J_isub X (dt tX3_runnerOf 50 rfl) ?_
                  exact J_iret X rr (dt tX3_runnerOf 51 rfl) (Nat.zero_le _) (Nat.zero_le _) ⟨congrArg (fun z => some (Value.int z)) (by unfold m_runnerOf; rw [hl, ← hx9]; exact ((if_neg c1).trans ((if_neg c2).trans ((if_neg e34_0).trans ((if_neg e34_1).trans ((if_neg e34_2).trans (if_pos rfl)))))).symm), rfl⟩
              · skip
                refine J_tableOut X 113 (dt tX3_runnerOf 18 rfl) (sw_out 3 (fun k hk => by rcases (show k = 0 ∨ k = 1 ∨ k = 2 ∨ k = 3 by omega) with rfl | rfl | rfl | rfl <;> assumption)) (by decide) ?_
                refine J_aload_n X (dt tX3_runnerOf 52 rfl) 0 rfl ?_
                refine M_get_all X (dt tX3_runnerOf 53 rfl) ?_
                refine J_bipush X (nI 25) (dt tX3_runnerOf 54 rfl) (by decide) ?_
                refine J_iload_n X (dt tX3_runnerOf 55 rfl) 1 rfl ?_
                refine J_iaddN X (dt tX3_runnerOf 56 rfl) ?_
                refine M_ald_all X hd (dt tX3_runnerOf 57 rfl) (by omega) ?_
                exact J_iret X rr (dt tX3_runnerOf 58 rfl) (Nat.zero_le _) (Nat.zero_le _) ⟨congrArg (fun z => some (Value.int z)) (by unfold m_runnerOf; rw [hl]; exact ((if_neg c1).trans ((if_neg c2).trans ((if_neg e34_0).trans ((if_neg e34_1).trans ((if_neg e34_2).trans (if_neg e34_3)))))).symm), rfl⟩
      · refine J_ldc X (dt tX3_runnerOf 15 rfl) q2000 ?_
        exact J_iret X rr (dt tX3_runnerOf 16 rfl) (Nat.zero_le _) (Nat.zero_le _) ⟨congrArg (fun z => some (Value.int z)) (by unfold m_runnerOf; rw [hl]; exact ((if_neg c1).trans (if_pos c2)).symm), rfl⟩
    · refine J_ldc X (dt tX3_runnerOf 9 rfl) q1903 ?_
      exact J_iret X rr (dt tX3_runnerOf 10 rfl) (Nat.zero_le _) (Nat.zero_le _) ⟨congrArg (fun z => some (Value.int z)) (by unfold m_runnerOf; rw [hl]; exact (if_pos c1).symm), rfl⟩
