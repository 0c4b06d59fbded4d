/-! printed by gen/modelm.py -/
set_option maxRecDepth 100000
/-! the reference: a moment goes by -/
def m_hasA (a : Nat → Int32) (j : Nat) : Int32 := if a (1 + j) = 1 then 1 else 0
def m_mv (a : Nat → Int32) : Nat → Nat → Int32
  | 0 => a
  | i + 1 => upd (m_mv a i) (9 + i) (m_mv a i (9 + i) + (if m_hasA (m_mv a i) i = 0 then 0 else m_mv a i (17 + i)))
theorem m_mv_out (a : Nat → Int32) {j : Nat} (h : j < 9 ∨ 17 ≤ j) : ∀ i, i ≤ 8 → m_mv a i j = a j
  | 0, _ => rfl
  | i + 1, hi => by
    show upd _ _ _ j = _
    rw [pk_un (by omega)]
    exact m_mv_out a h i (by omega)
def m_tick (a : Nat → Int32) : Nat → Int32 := upd a 0 (a 0 + 1)
def m_mvS (σ : MS) : MS := sA σ 0 (m_mv (m_tick (σ.1 0)) 8)
theorem WF.mvS {σ : MS} (h : WF σ) : WF (m_mvS σ) := by
  refine ⟨fun i hi => ?_, ?_⟩
  · show isL (m_mv (m_tick (σ.1 0)) 8 (33 + i))
    rw [m_mv_out _ (by omega) 8 (by omega)]
    show isL (upd (σ.1 0) 0 _ (33 + i))
    rw [pk_un (by omega)]
    exact h.1 i hi
  · obtain ⟨-, kp, hk, e⟩ := h
    refine ⟨kp, hk, ?_⟩
    show m_mv (m_tick (σ.1 0)) 8 84 = _
    rw [m_mv_out _ (by omega) 8 (by omega)]
    exact e
def m_due (σ : MS) (r : Nat) : Int32 := if σ.1 0 (47 + r) = σ.1 0 0 then 1 else if nI r ≤ nI 3 then 0 else if σ.1 3 (2 * (r - 4)) + σ.1 3 (2 * (r - 4) + 1) ≤ 0 then 0 else 1
def m_rcT (σ : MS) (r : Nat) : MS := if m_due σ r = 0 then σ else m_runsT σ r
def m_rcO (σ : MS) (r : Nat) : Int32 := if m_due σ r = 0 then 0 else if m_runsR σ r = 0 then 0 else 1
def m_rc (σ : MS) (r : Nat) : MS := sA (m_rcT σ r) 3 (upd ((m_rcT σ r).1 3) r (m_rcO σ r))
def m_rcs (σ : MS) : Nat → MS
  | 0 => σ
  | i + 1 => m_rc (m_rcs σ i) i
theorem WF.of0 {σ τ : MS} (h : WF σ) (e : τ.1 0 = σ.1 0) : WF τ := by
  unfold WF
  rw [e]
  exact h
theorem WF.rcT {σ : MS} (h : WF σ) {r : Nat} (hr : r < 7) : WF (m_rcT σ r) := by
  unfold m_rcT
  split
  · exact h
  · exact h.runs hr
theorem WF.rc {σ : MS} (h : WF σ) {r : Nat} (hr : r < 7) : WF (m_rc σ r) := (h.rcT hr).of0 rfl
theorem WF.rcs {σ : MS} (h : WF σ) : ∀ i, i ≤ 7 → WF (m_rcs σ i)
  | 0, _ => h
  | i + 1, hi => (WF.rcs h i (by omega)).rc (by omega)
def m_led (σ : MS) : MS := match lo (m_leaderNow σ) with
  | none => σ
  | some j => sA σ 0 (upd (σ.1 0) (25 + j) (σ.1 0 (25 + j) + 1))
theorem WF.leader {σ : MS} (h : WF σ) : isL (m_leaderNow σ) := h.1 6 (by omega)
theorem WF.led {σ : MS} (h : WF σ) : WF (m_led σ) := by
  unfold m_led
  have hl := h.leader
  cases e : lo (m_leaderNow σ) with
  | none => exact h
  | some j =>
    have hj := hl.lt e
    refine ⟨fun i hi => ?_, ?_⟩
    · show isL (upd (σ.1 0) (25 + j) _ (33 + i))
      rw [pk_un (by omega)]
      exact h.1 i hi
    · obtain ⟨-, kp, hk, e2⟩ := h
      exact ⟨kp, hk, by show upd (σ.1 0) (25 + j) _ 84 = _; rw [pk_un (by omega)]; exact e2⟩
def m_byS (σ : MS) : MS := m_led (m_rcs (m_mvS σ) 7)
theorem WF.byS {σ : MS} (h : WF σ) : WF (m_byS σ) := (h.mvS.rcs 7 (by omega)).led
def m_byR (σ : MS) : Int32 := m_putsR (m_byS σ) (kpo (m_byS σ))
def m_byT (σ : MS) : MS := m_putsT (m_byS σ) (kpo (m_byS σ))
theorem m_byR_B (σ : MS) : isB (m_byR σ) := m_putsR_B _ _
theorem WF.byT {σ : MS} (h : WF σ) : WF (m_byT σ) := h.byS.puts
abbrev cX3_goesBy : ByteArray := prog_12_method_20_code
def yX3_goesBy : MethodName := ⟨RX3, "goesBy", "()Z"⟩
theorem tX3_goesBy : dtab cX3_goesBy [(0, .aload_n 0, 1, 1), (1, .getfield 7, 3, 4), (4, .iconst 0, 1, 5), (5, .dup2, 1, 6), (6, .iaload, 1, 7), (7, .iconst 1, 1, 8), (8, .iadd, 1, 9), (9, .iastore, 1, 10), (10, .iconst 0, 1, 11), (11, .istore_n 1, 1, 12), (12, .iload_n 1, 1, 13), (13, .bipush 8, 2, 15), (15, .if_icmp .ge 42, 3, 18), (18, .aload_n 0, 1, 19), (19, .getfield 7, 3, 22), (22, .bipush 9, 2, 24), (24, .iload_n 1, 1, 25), (25, .iadd, 1, 26), (26, .dup2, 1, 27), (27, .iaload, 1, 28), (28, .aload_n 0, 1, 29), (29, .iload_n 1, 1, 30), (30, .invokevirtual 47, 3, 33), (33, .ifCond .eq 15, 3, 36), (36, .aload_n 0, 1, 37), (37, .getfield 7, 3, 40), (40, .bipush 17, 2, 42), (42, .iload_n 1, 1, 43), (43, .iadd, 1, 44), (44, .iaload, 1, 45), (45, .goto 4, 3, 48), (48, .iconst 0, 1, 49), (49, .iadd, 1, 50), (50, .iastore, 1, 51), (51, .iinc 1 1, 3, 54), (54, .goto (-42), 3, 57), (57, .iconst 0, 1, 58), (58, .istore_n 1, 1, 59), (59, .iload_n 1, 1, 60), (60, .bipush 7, 2, 62), (62, .if_icmp .ge 87, 3, 65), (65, .aload_n 0, 1, 66), (66, .getfield 7, 3, 69), (69, .bipush 47, 2, 71), (71, .iload_n 1, 1, 72), (72, .iadd, 1, 73), (73, .iaload, 1, 74), (74, .aload_n 0, 1, 75), (75, .getfield 7, 3, 78), (78, .iconst 0, 1, 79), (79, .iaload, 1, 80), (80, .if_icmp .eq 34, 3, 83), (83, .iload_n 1, 1, 84), (84, .iconst 3, 1, 85), (85, .if_icmp .le 33, 3, 88), (88, .aload_n 0, 1, 89), (89, .getfield 19, 3, 92), (92, .iconst 2, 1, 93), (93, .iload_n 1, 1, 94), (94, .iconst 4, 1, 95), (95, .isub, 1, 96), (96, .imul, 1, 97), (97, .iaload, 1, 98), (98, .aload_n 0, 1, 99), (99, .getfield 19, 3, 102), (102, .iconst 2, 1, 103), (103, .iload_n 1, 1, 104), (104, .iconst 4, 1, 105), (105, .isub, 1, 106), (106, .imul, 1, 107), (107, .iconst 1, 1, 108), (108, .iadd, 1, 109), (109, .iaload, 1, 110), (110, .iadd, 1, 111), (111, .ifCond .le 7, 3, 114), (114, .iconst 1, 1, 115), (115, .goto 4, 3, 118), (118, .iconst 0, 1, 119), (119, .istore_n 2, 1, 120), (120, .aload_n 0, 1, 121), (121, .getfield 19, 3, 124), (124, .iload_n 1, 1, 125), (125, .iload_n 2, 1, 126), (126, .ifCond .eq 15, 3, 129), (129, .aload_n 0, 1, 130), (130, .iload_n 1, 1, 131), (131, .invokevirtual 68, 3, 134), (134, .ifCond .eq 7, 3, 137), (137, .iconst 1, 1, 138), (138, .goto 4, 3, 141), (141, .iconst 0, 1, 142), (142, .iastore, 1, 143), (143, .iinc 1 1, 3, 146), (146, .goto (-87), 3, 149), (149, .aload_n 0, 1, 150), (150, .invokevirtual 61, 3, 153), (153, .iconst (-1), 1, 154), (154, .if_icmp .eq 19, 3, 157), (157, .aload_n 0, 1, 158), (158, .getfield 7, 3, 161), (161, .bipush 25, 2, 163), (163, .aload_n 0, 1, 164), (164, .invokevirtual 61, 3, 167), (167, .iadd, 1, 168), (168, .dup2, 1, 169), (169, .iaload, 1, 170), (170, .iconst 1, 1, 171), (171, .iadd, 1, 172), (172, .iastore, 1, 173), (173, .aload_n 0, 1, 174), (174, .invokevirtual 71, 3, 177), (177, .ireturn, 1, 178)] := by unfold dtab; decide +kernel
theorem okX3_goesBy : okY yX3_goesBy 0 := by decide +kernel
set_option maxHeartbeats 4000000 in
theorem c_goesBy (l : Launch) (D : va_G) {h0 : PH} {m : Nat} {ar : Nat → Nat} (hd : md m ar) (σ : MS)  (hW : WF σ) : Ct l D yX3_goesBy cX3_goesBy 3 (some .boolean) (rmM 3 75) [.ref m] (mh h0 m ar σ) (PM h0 m ar (some (.int (m_byR σ))) (m_byT σ)) := by
  refine Ct.of (by decide) rfl (fun Γ X rr hmn => ?_)
  have X : Cx l D cX3_goesBy RX3 3 (rmM 3 75) Γ := X
  show J Γ (mh h0 m ar σ) 0 0 0 [(0, .ref m)] []
  refine J_aload_n X (dt tX3_goesBy 0 rfl) 0 rfl ?_
  refine M_get_all X (dt tX3_goesBy 1 rfl) ?_
  refine J_iconst X (nI 0) (dt tX3_goesBy 2 rfl) (by decide) ?_
  refine J_dup2 X (dt tX3_goesBy 3 rfl) rfl rfl ?_
  refine M_ald_all X hd (dt tX3_goesBy 4 rfl) (by decide) ?_
  refine J_iconst X (nI 1) (dt tX3_goesBy 5 rfl) (by decide) ?_
  refine J_iadd X (dt tX3_goesBy 6 rfl) ?_
  refine M_ast_all X hd (dt tX3_goesBy 7 rfl) (by decide) ?_
  refine J_iconst X (nI 0) (dt tX3_goesBy 8 rfl) (by decide) ?_
  refine J_istore_n X (lv2 := [(1, .int (nI 0)), (0, .ref m)]) (dt tX3_goesBy 9 rfl) rfl rfl rfl ?_
  refine J_sub [1, 0] rfl ?_
  refine up_to 8 (P := fun i1 => J Γ (mh h0 m ar (sA σ 0 (m_mv (m_tick (σ.1 0)) i1))) 0 0 12 [(0, .ref m), (1, .int (nI i1))] []) ?_ ?_
  · show J Γ (mh h0 m ar (sA σ 0 (m_mv (m_tick (σ.1 0)) 8))) 0 0 12 [(0, .ref m), (1, .int (nI 8))] []
    refine J_iload_n X (dt tX3_goesBy 10 rfl) 1 rfl ?_
    refine J_bipush X (nI 8) (dt tX3_goesBy 11 rfl) (by decide) ?_
    refine J_icmp_ge X 57 (dt tX3_goesBy 12 rfl) (by decide) (fun _ => ?_) (fun c9 => absurd (nI_le (Nat.le_refl 8) (by decide)) c9)
    refine J_iconst X (nI 0) (dt tX3_goesBy 36 rfl) (by decide) ?_
    refine J_istore_n X (lv2 := [(1, .int (nI 0)), (0, .ref m)]) (dt tX3_goesBy 37 rfl) rfl rfl rfl ?_
    refine J_sub [1, 0] rfl ?_
    refine up_to 7 (P := fun i2 => J Γ (mh h0 m ar (m_rcs (m_mvS σ) i2)) 0 0 59 [(0, .ref m), (1, .int (nI i2))] []) ?_ ?_
    · show J Γ (mh h0 m ar (m_rcs (m_mvS σ) 7)) 0 0 59 [(0, .ref m), (1, .int (nI 7))] []
      refine J_iload_n X (dt tX3_goesBy 38 rfl) 1 rfl ?_
      refine J_bipush X (nI 7) (dt tX3_goesBy 39 rfl) (by decide) ?_
      refine J_icmp_ge X 149 (dt tX3_goesBy 40 rfl) (by decide) (fun _ => ?_) (fun c9 => absurd (nI_le (Nat.le_refl 7) (by decide)) c9)
      have hW7 : WF (m_rcs (m_mvS σ) 7) := hW.mvS.rcs 7 (by omega)
      rcases hW7.leader with hl | ⟨jl, hjl, hl⟩
      · have hS : m_byS σ = m_rcs (m_mvS σ) 7 := by
          unfold m_byS m_led
          rw [hl, lo_m1]
        refine J_aload_n X (dt tX3_goesBy 94 rfl) 0 rfl ?_
        refine M_callV (rest := []) X (dt tX3_goesBy 95 rfl) (c_leaderNow l D hd (m_rcs (m_mvS σ) 7) ) (lw_V q1937 q1939 qs46 q86 q1940) okX3_leaderNow rfl rfl ⟨Nat.le_of_ble_eq_true rfl, Nat.le_of_ble_eq_true rfl⟩ rfl (Nat.le_of_ble_eq_true rfl) (Nat.zero_le _) (Nat.zero_le _) ?_
        refine J_topi hl ?_
        refine J_iconst X (-1) (dt tX3_goesBy 96 rfl) (by decide) ?_
        refine J_icmp_eq X 173 (dt tX3_goesBy 97 rfl) (by decide) (fun _ => ?_) (fun c9 => absurd (rfl) c9)
        refine J_aload_n X (dt tX3_goesBy 109 rfl) 0 rfl ?_
        refine M_callV (rest := []) X (dt tX3_goesBy 110 rfl) (c_putsDown l D hd (m_rcs (m_mvS σ) 7) (kpo (m_rcs (m_mvS σ) 7)) (WF.kp (by have h9 := hW.byS; rw [hS] at h9; exact h9)) (WF.kle (by have h9 := hW.byS; rw [hS] at h9; exact h9))) (lw_V q1933 q1935 qs45 q86 q1936) okX3_putsDown rfl rfl ⟨Nat.le_of_ble_eq_true rfl, Nat.le_of_ble_eq_true rfl⟩ rfl (Nat.le_of_ble_eq_true rfl) (Nat.zero_le _) (Nat.zero_le _) ?_
        exact J_zret X rr (dt tX3_goesBy 111 rfl) (Nat.zero_le _) (Nat.zero_le _) (isB.nar (m_putsR_B _ _)) (by unfold m_byR m_byT; rw [hS]; exact ⟨rfl, rfl⟩)
      · have hS : m_byS σ = sA (m_rcs (m_mvS σ) 7) 0 (upd ((m_rcs (m_mvS σ) 7).1 0) (25 + jl) ((m_rcs (m_mvS σ) 7).1 0 (25 + jl) + 1)) := by
          unfold m_byS m_led
          rw [hl, lo_nI (by omega)]
        refine J_aload_n X (dt tX3_goesBy 94 rfl) 0 rfl ?_
        refine M_callV (rest := []) X (dt tX3_goesBy 95 rfl) (c_leaderNow l D hd (m_rcs (m_mvS σ) 7) ) (lw_V q1937 q1939 qs46 q86 q1940) okX3_leaderNow rfl rfl ⟨Nat.le_of_ble_eq_true rfl, Nat.le_of_ble_eq_true rfl⟩ rfl (Nat.le_of_ble_eq_true rfl) (Nat.zero_le _) (Nat.zero_le _) ?_
        refine J_topi hl ?_
        refine J_iconst X (-1) (dt tX3_goesBy 96 rfl) (by decide) ?_
        refine J_icmp_eq X 173 (dt tX3_goesBy 97 rfl) (by decide) (fun c9 => absurd c9 (nI_nm1 (by omega))) (fun _ => ?_)
        refine J_aload_n X (dt tX3_goesBy 98 rfl) 0 rfl ?_
        refine M_get_all X (dt tX3_goesBy 99 rfl) ?_
        refine J_bipush X (nI 25) (dt tX3_goesBy 100 rfl) (by decide) ?_
        refine J_aload_n X (dt tX3_goesBy 101 rfl) 0 rfl ?_
        refine M_callV (rest := [.int (nI 25), .ref (ar 0)]) X (dt tX3_goesBy 102 rfl) (c_leaderNow l D hd (m_rcs (m_mvS σ) 7) ) (lw_V q1937 q1939 qs46 q86 q1940) okX3_leaderNow rfl rfl ⟨Nat.le_of_ble_eq_true rfl, Nat.le_of_ble_eq_true rfl⟩ rfl (Nat.le_of_ble_eq_true rfl) (Nat.zero_le _) (Nat.zero_le _) ?_
        refine J_topi hl ?_
        refine J_iaddN X (dt tX3_goesBy 103 rfl) ?_
        refine J_dup2 X (dt tX3_goesBy 104 rfl) rfl rfl ?_
        refine M_ald_all X hd (dt tX3_goesBy 105 rfl) (by omega) ?_
        refine J_iconst X (nI 1) (dt tX3_goesBy 106 rfl) (by decide) ?_
        refine J_iadd X (dt tX3_goesBy 107 rfl) ?_
        refine M_ast_all X hd (dt tX3_goesBy 108 rfl) (by omega) ?_
        refine J_aload_n X (dt tX3_goesBy 109 rfl) 0 rfl ?_
        refine M_callV (rest := []) X (dt tX3_goesBy 110 rfl) (c_putsDown l D hd (sA (m_rcs (m_mvS σ) 7) 0 (upd ((m_rcs (m_mvS σ) 7).1 0) (25 + jl) (((m_rcs (m_mvS σ) 7).1 0 (25 + jl)) + (nI 1)))) (kpo (sA (m_rcs (m_mvS σ) 7) 0 (upd ((m_rcs (m_mvS σ) 7).1 0) (25 + jl) (((m_rcs (m_mvS σ) 7).1 0 (25 + jl)) + (nI 1))))) (WF.kp (by have h9 := hW.byS; rw [hS] at h9; exact h9)) (WF.kle (by have h9 := hW.byS; rw [hS] at h9; exact h9))) (lw_V q1933 q1935 qs45 q86 q1936) okX3_putsDown rfl rfl ⟨Nat.le_of_ble_eq_true rfl, Nat.le_of_ble_eq_true rfl⟩ rfl (Nat.le_of_ble_eq_true rfl) (Nat.zero_le _) (Nat.zero_le _) ?_
        exact J_zret X rr (dt tX3_goesBy 111 rfl) (Nat.zero_le _) (Nat.zero_le _) (isB.nar (m_putsR_B _ _)) (by unfold m_byR m_byT; rw [hS]; exact ⟨rfl, rfl⟩)
    · intro i2 hi2 ih
      refine J_iload_n X (dt tX3_goesBy 38 rfl) 1 rfl ?_
      refine J_bipush X (nI 7) (dt tX3_goesBy 39 rfl) (by decide) ?_
      refine J_icmp_ge X 149 (dt tX3_goesBy 40 rfl) (by decide) (fun c9 => absurd c9 (nI_ge hi2 (by decide))) (fun _ => ?_)
      refine J_aload_n X (dt tX3_goesBy 41 rfl) 0 rfl ?_
      refine M_get_all X (dt tX3_goesBy 42 rfl) ?_
      refine J_bipush X (nI 47) (dt tX3_goesBy 43 rfl) (by decide) ?_
      refine J_iload_n X (dt tX3_goesBy 44 rfl) 1 rfl ?_
      refine J_iaddN X (dt tX3_goesBy 45 rfl) ?_
      refine M_ald_all X hd (dt tX3_goesBy 46 rfl) (by omega) ?_
      refine J_aload_n X (dt tX3_goesBy 47 rfl) 0 rfl ?_
      refine M_get_all X (dt tX3_goesBy 48 rfl) ?_
      refine J_iconst X (nI 0) (dt tX3_goesBy 49 rfl) (by decide) ?_
      refine M_ald_all X hd (dt tX3_goesBy 50 rfl) (by decide) ?_
      have kj7 : ∀ v6 : Int32, v6 = (if ((m_rcs (m_mvS σ) i2).1 0 (47 + i2)) = ((m_rcs (m_mvS σ) i2).1 0 0) then nI 1 else if (nI i2) ≤ (nI 3) then nI 0 else if (((m_rcs (m_mvS σ) i2).1 3 (2 * (i2 - 4))) + ((m_rcs (m_mvS σ) i2).1 3 ((2 * (i2 - 4)) + 1))) ≤ 0 then nI 0 else nI 1) → J Γ (mh h0 m ar (m_rcs (m_mvS σ) i2)) 0 0 119 [(0, .ref m), (1, .int (nI i2))] [.int v6] := by
        intro v6 ev6
        refine J_istore_n X (lv2 := [(2, .int v6), (0, .ref m), (1, .int (nI i2))]) (dt tX3_goesBy 78 rfl) rfl rfl rfl ?_
        refine J_aload_n X (dt tX3_goesBy 79 rfl) 1 rfl ?_
        refine M_get_isOther X (dt tX3_goesBy 80 rfl) ?_
        refine J_iload_n X (dt tX3_goesBy 81 rfl) 2 rfl ?_
        refine J_iload_n X (dt tX3_goesBy 82 rfl) 0 rfl ?_
        have kj12 : ∀ v10 : Int32, v10 = (if v6 = 0 then nI 0 else if (m_runsR (m_rcs (m_mvS σ) i2) i2) = 0 then nI 0 else nI 1) → ∀ τ11 : MS, τ11 = (if v6 = 0 then m_rcs (m_mvS σ) i2 else m_runsT (m_rcs (m_mvS σ) i2) i2) → J Γ (mh h0 m ar τ11) 0 0 142 [(2, .int v6), (0, .ref m), (1, .int (nI i2))] [.int v10, .int (nI i2), .ref (ar 3)] := by
          intro v10 ev10 τ11 eτ11
          refine M_ast_isOther X hd (dt tX3_goesBy 91 rfl) (by omega) ?_
          refine J_iinc X (lv2 := [(1, .int (nI (i2 + 1))), (2, .int v6), (0, .ref m)]) (dt tX3_goesBy 92 rfl) 2 (nI (i2 + 1)) rfl (nI_add i2 1) rfl rfl ?_
          refine J_goto X (tgt := 59) (dt tX3_goesBy 93 rfl) (by decide) ?_
          refine J_sub [2, 0] rfl ?_
          subst_vars
          exact ih
        refine J_if_eq X 141 (dt tX3_goesBy 83 rfl) (by decide) (fun c8 => ?_) (fun c8 => ?_)
        · refine J_iconst X (nI 0) (dt tX3_goesBy 90 rfl) (by decide) ?_
          exact kj12 _ (if_pos c8).symm _ (if_pos c8).symm
        · refine J_aload_n X (dt tX3_goesBy 84 rfl) 1 rfl ?_
          refine J_iload_n X (dt tX3_goesBy 85 rfl) 2 rfl ?_
          refine M_callV (rest := [.int (nI i2), .ref (ar 3)]) X (dt tX3_goesBy 86 rfl) (c_runs l D hd (m_rcs (m_mvS σ) i2) i2 (by omega) (WF.ro (hW.mvS.rcs _ (by omega)) (by omega))) (lw_V q1913 q1915 qs40 q86 q1916) okX3_runs rfl rfl ⟨Nat.le_of_ble_eq_true rfl, Nat.le_of_ble_eq_true rfl⟩ rfl (Nat.le_of_ble_eq_true rfl) (Nat.zero_le _) (Nat.zero_le _) ?_
          refine J_if_eq X 141 (dt tX3_goesBy 87 rfl) (by decide) (fun c9 => ?_) (fun c9 => ?_)
          · refine J_iconst X (nI 0) (dt tX3_goesBy 90 rfl) (by decide) ?_
            exact kj12 _ ((if_neg c8).trans (if_pos c9)).symm _ (if_neg c8).symm
          · refine J_iconst X (nI 1) (dt tX3_goesBy 88 rfl) (by decide) ?_
            refine J_goto X (tgt := 142) (dt tX3_goesBy 89 rfl) (by decide) ?_
            exact kj12 _ ((if_neg c8).trans (if_neg c9)).symm _ (if_neg c8).symm
      refine J_icmp_eq X 114 (dt tX3_goesBy 51 rfl) (by decide) (fun c3 => ?_) (fun c3 => ?_)
      · refine J_iconst X (nI 1) (dt tX3_goesBy 75 rfl) (by decide) ?_
        refine J_goto X (tgt := 119) (dt tX3_goesBy 76 rfl) (by decide) ?_
        exact kj7 _ (if_pos c3).symm
      · refine J_iload_n X (dt tX3_goesBy 52 rfl) 1 rfl ?_
        refine J_iconst X (nI 3) (dt tX3_goesBy 53 rfl) (by decide) ?_
        refine J_icmp_le X 118 (dt tX3_goesBy 54 rfl) (by decide) (fun c4 => ?_) (fun c4 => ?_)
        · refine J_iconst X (nI 0) (dt tX3_goesBy 77 rfl) (by decide) ?_
          exact kj7 _ ((if_neg c3).trans (if_pos c4)).symm
        · have h4 : 4 ≤ i2 := Nat.lt_of_not_le (fun z => c4 (nI_le z (by omega)))
          refine J_aload_n X (dt tX3_goesBy 55 rfl) 0 rfl ?_
          refine M_get_isOther X (dt tX3_goesBy 56 rfl) ?_
          refine J_iconst X (nI 2) (dt tX3_goesBy 57 rfl) (by decide) ?_
          refine J_iload_n X (dt tX3_goesBy 58 rfl) 1 rfl ?_
          refine J_iconst X (nI 4) (dt tX3_goesBy 59 rfl) (by decide) ?_
          refine J_isubN X (dt tX3_goesBy 60 rfl) (by omega) ?_
          refine J_imulN X (dt tX3_goesBy 61 rfl) ?_
          refine M_ald_isOther X hd (dt tX3_goesBy 62 rfl) (by omega) ?_
          refine J_aload_n X (dt tX3_goesBy 63 rfl) 0 rfl ?_
          refine M_get_isOther X (dt tX3_goesBy 64 rfl) ?_
          refine J_iconst X (nI 2) (dt tX3_goesBy 65 rfl) (by decide) ?_
          refine J_iload_n X (dt tX3_goesBy 66 rfl) 1 rfl ?_
          refine J_iconst X (nI 4) (dt tX3_goesBy 67 rfl) (by decide) ?_
          refine J_isubN X (dt tX3_goesBy 68 rfl) (by omega) ?_
          refine J_imulN X (dt tX3_goesBy 69 rfl) ?_
          refine J_iconst X (nI 1) (dt tX3_goesBy 70 rfl) (by decide) ?_
          refine J_iaddN X (dt tX3_goesBy 71 rfl) ?_
          refine M_ald_isOther X hd (dt tX3_goesBy 72 rfl) (by omega) ?_
          refine J_iadd X (dt tX3_goesBy 73 rfl) ?_
          refine J_if_le X 118 (dt tX3_goesBy 74 rfl) (by decide) (fun c5 => ?_) (fun c5 => ?_)
          · refine J_iconst X (nI 0) (dt tX3_goesBy 77 rfl) (by decide) ?_
            exact kj7 _ ((if_neg c3).trans ((if_neg c4).trans (if_pos c5))).symm
          · refine J_iconst X (nI 1) (dt tX3_goesBy 75 rfl) (by decide) ?_
            refine J_goto X (tgt := 119) (dt tX3_goesBy 76 rfl) (by decide) ?_
            exact kj7 _ ((if_neg c3).trans ((if_neg c4).trans (if_neg c5))).symm
  · intro i1 hi1 ih
    refine J_iload_n X (dt tX3_goesBy 10 rfl) 1 rfl ?_
    refine J_bipush X (nI 8) (dt tX3_goesBy 11 rfl) (by decide) ?_
    refine J_icmp_ge X 57 (dt tX3_goesBy 12 rfl) (by decide) (fun c9 => absurd c9 (nI_ge hi1 (by decide))) (fun _ => ?_)
    refine J_aload_n X (dt tX3_goesBy 13 rfl) 0 rfl ?_
    refine M_get_all X (dt tX3_goesBy 14 rfl) ?_
    refine J_bipush X (nI 9) (dt tX3_goesBy 15 rfl) (by decide) ?_
    refine J_iload_n X (dt tX3_goesBy 16 rfl) 1 rfl ?_
    refine J_iaddN X (dt tX3_goesBy 17 rfl) ?_
    refine J_dup2 X (dt tX3_goesBy 18 rfl) rfl rfl ?_
    refine M_ald_all X hd (dt tX3_goesBy 19 rfl) (by omega) ?_
    refine J_aload_n X (dt tX3_goesBy 20 rfl) 0 rfl ?_
    refine J_iload_n X (dt tX3_goesBy 21 rfl) 1 rfl ?_
    refine M_callV (rest := [.int (m_mv (m_tick (σ.1 0)) i1 (9 + i1)), .int (nI (9 + i1)), .ref (ar 0)]) X (dt tX3_goesBy 22 rfl) (c_has l D hd (sA σ 0 (m_mv (m_tick (σ.1 0)) i1)) i1 (by omega)) (lw_V q1904 q1906 qs38 q86 q1907) okX3_has rfl rfl ⟨Nat.le_of_ble_eq_true rfl, Nat.le_of_ble_eq_true rfl⟩ rfl (Nat.le_of_ble_eq_true rfl) (Nat.zero_le _) (Nat.zero_le _) ?_
    have kj15 : ∀ v14 : Int32, v14 = (if (m_has (sA σ 0 (m_mv (m_tick (σ.1 0)) i1)) i1) = 0 then nI 0 else m_mv (m_tick (σ.1 0)) i1 (17 + i1)) → J Γ (mh h0 m ar (sA σ 0 (m_mv (m_tick (σ.1 0)) i1))) 0 0 49 [(0, .ref m), (1, .int (nI i1))] [.int v14, .int (m_mv (m_tick (σ.1 0)) i1 (9 + i1)), .int (nI (9 + i1)), .ref (ar 0)] := by
      intro v14 ev14
      refine J_iadd X (dt tX3_goesBy 32 rfl) ?_
      refine M_ast_all X hd (dt tX3_goesBy 33 rfl) (by omega) ?_
      refine J_heap (h2 := mh h0 m ar (sA σ 0 (upd (m_mv (m_tick (σ.1 0)) i1) (9 + i1) ((m_mv (m_tick (σ.1 0)) i1 (9 + i1)) + v14)))) (congrArg (mh h0 m ar) (sA_sA _ _ _ _)) ?_
      refine J_iinc X (lv2 := [(1, .int (nI (i1 + 1))), (0, .ref m)]) (dt tX3_goesBy 34 rfl) 1 (nI (i1 + 1)) rfl (nI_add i1 1) rfl rfl ?_
      refine J_goto X (tgt := 12) (dt tX3_goesBy 35 rfl) (by decide) ?_
      refine J_sub [1, 0] rfl ?_
      subst_vars
      exact ih
    refine J_if_eq X 48 (dt tX3_goesBy 23 rfl) (by decide) (fun c13 => ?_) (fun c13 => ?_)
    · refine J_iconst X (nI 0) (dt tX3_goesBy 31 rfl) (by decide) ?_
      exact kj15 _ (if_pos c13).symm
    · refine J_aload_n X (dt tX3_goesBy 24 rfl) 0 rfl ?_
      refine M_get_all X (dt tX3_goesBy 25 rfl) ?_
      refine J_bipush X (nI 17) (dt tX3_goesBy 26 rfl) (by decide) ?_
      refine J_iload_n X (dt tX3_goesBy 27 rfl) 1 rfl ?_
      refine J_iaddN X (dt tX3_goesBy 28 rfl) ?_
      refine M_ald_all X hd (dt tX3_goesBy 29 rfl) (by omega) ?_
      refine J_goto X (tgt := 49) (dt tX3_goesBy 30 rfl) (by decide) ?_
      exact kj15 _ (if_neg c13).symm
