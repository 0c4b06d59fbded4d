/-! printed by gen/modelm.py -/
set_option maxRecDepth 100000
/-! the reference: leaders that were, leaders to come -/
theorem ix_of {x : Int32} {n : Nat} (hn : n < 2 ^ 31) (h0 : ¬ x < 0) (h1 : x < nI n) : ∃ i : Nat, i < n ∧ x = nI i := by
  obtain ⟨i, hi, rfl⟩ := nI_of h0
  exact ⟨i, (nI_ltI hi hn).mp h1, rfl⟩
def m_ledBy (σ : MS) (kp : Nat) (x y : Int32) : Int32 := if x < 0 then -10000001 else if m_in y.toInt64 0 1 = 0 then -10000001 else if x < nI kp then (if y = 0 then σ.1 0 (68 + kp - 1 - x.toNatClampNeg) else σ.1 0 (76 + kp - 1 - x.toNatClampNeg)) else -10000004
abbrev cX3_ledBy : ByteArray := prog_12_method_37_code
def yX3_ledBy : MethodName := ⟨RX3, "ledBy", "(II)I"⟩
theorem tX3_ledBy : dtab cX3_ledBy [(0, .iload_n 1, 1, 1), (1, .ifCond .lt 13, 3, 4), (4, .iload_n 2, 1, 5), (5, .i2l, 1, 6), (6, .lconst 0, 1, 7), (7, .lconst 1, 1, 8), (8, .invokestatic 35, 3, 11), (11, .ifCond .ne 6, 3, 14), (14, .ldc 28, 2, 16), (16, .ireturn, 1, 17), (17, .iload_n 1, 1, 18), (18, .aload_n 0, 1, 19), (19, .getfield 7, 3, 22), (22, .bipush 84, 2, 24), (24, .iaload, 1, 25), (25, .if_icmp .lt 6, 3, 28), (28, .ldc 131, 2, 30), (30, .ireturn, 1, 31), (31, .aload_n 0, 1, 32), (32, .getfield 7, 3, 35), (35, .iload_n 2, 1, 36), (36, .ifCond .ne 8, 3, 39), (39, .bipush 68, 2, 41), (41, .goto 5, 3, 44), (44, .bipush 76, 2, 46), (46, .aload_n 0, 1, 47), (47, .getfield 7, 3, 50), (50, .bipush 84, 2, 52), (52, .iaload, 1, 53), (53, .iadd, 1, 54), (54, .iconst 1, 1, 55), (55, .isub, 1, 56), (56, .iload_n 1, 1, 57), (57, .isub, 1, 58), (58, .iaload, 1, 59), (59, .ireturn, 1, 60)] := by unfold dtab; decide +kernel
theorem okX3_ledBy : okY yX3_ledBy 2 := by decide +kernel
set_option maxHeartbeats 4000000 in
theorem c_ledBy (l : Launch) (D : va_G) {h0 : PH} {m : Nat} {ar : Nat → Nat} (hd : md m ar) (σ : MS) (x : Int32) (y : Int32) (kp : Nat) (hk : σ.1 0 84 = nI kp) (hkp : kp ≤ 8) : Ct l D yX3_ledBy cX3_ledBy 3 (some .int) (rmM 1 25) [.ref m, .int x, .int y] (mh h0 m ar σ) (PM h0 m ar (some (.int (m_ledBy σ kp x y))) σ) := by
  refine Ct.of (by decide) rfl (fun Γ X rr hmn => ?_)
  have X : Cx l D cX3_ledBy RX3 3 (rmM 1 25) Γ := X
  show J Γ (mh h0 m ar σ) 0 0 0 [(0, .ref m), (1, .int x), (2, .int y)] []
  refine J_iload_n X (dt tX3_ledBy 0 rfl) 1 rfl ?_
  refine J_if_lt X 14 (dt tX3_ledBy 1 rfl) (by decide) (fun c1 => ?_) (fun c1 => ?_)
  · refine J_ldc X (dt tX3_ledBy 8 rfl) q1903 ?_
    exact J_iret X rr (dt tX3_ledBy 9 rfl) (Nat.zero_le _) (Nat.zero_le _) ⟨congrArg (fun z => some (Value.int z)) (if_pos c1).symm, rfl⟩
  · refine J_iload_n X (dt tX3_ledBy 2 rfl) 2 rfl ?_
    refine J_i2l X (dt tX3_ledBy 3 rfl) ?_
    refine J_lconst X 0 (dt tX3_ledBy 4 rfl) (by decide) ?_
    refine J_lconst X 1 (dt tX3_ledBy 5 rfl) (by decide) ?_
    refine S_callS (rest := []) X (dt tX3_ledBy 6 rfl) (c_in l D _ y.toInt64 0 1 ) (lw_S q1893 q1894 q86 q1895) okX3_in rfl ⟨Nat.le_of_ble_eq_true rfl, Nat.le_of_ble_eq_true rfl⟩ rfl (Nat.le_of_ble_eq_true rfl) (Nat.zero_le _) (Nat.zero_le _) ?_
    refine J_if_ne X 17 (dt tX3_ledBy 7 rfl) (by decide) (fun c2 => ?_) (fun c2 => ?_)
    · refine J_iload_n X (dt tX3_ledBy 10 rfl) 1 rfl ?_
      refine J_aload_n X (dt tX3_ledBy 11 rfl) 0 rfl ?_
      refine M_get_all X (dt tX3_ledBy 12 rfl) ?_
      refine J_bipush X (nI 84) (dt tX3_ledBy 13 rfl) (by decide) ?_
      refine M_ald_all X hd (dt tX3_ledBy 14 rfl) (by decide) ?_
      refine J_topi hk ?_
      refine J_icmp_lt X 31 (dt tX3_ledBy 15 rfl) (by decide) (fun c3 => ?_) (fun c3 => ?_)
      · obtain ⟨xi, hxi, rfl⟩ := ix_of (by omega) c1 c3
        by_cases hy : y = 0
        · refine J_aload_n X (dt tX3_ledBy 18 rfl) 0 rfl ?_
          refine M_get_all X (dt tX3_ledBy 19 rfl) ?_
          refine J_iload_n X (dt tX3_ledBy 20 rfl) 2 rfl ?_
          refine J_if_ne X 44 (dt tX3_ledBy 21 rfl) (by decide) (fun c9 => absurd (hy) c9) (fun _ => ?_)
          refine J_bipush X (nI 68) (dt tX3_ledBy 22 rfl) (by decide) ?_
          refine J_goto X (tgt := 46) (dt tX3_ledBy 23 rfl) (by decide) ?_
          refine J_aload_n X (dt tX3_ledBy 25 rfl) 0 rfl ?_
          refine M_get_all X (dt tX3_ledBy 26 rfl) ?_
          refine J_bipush X (nI 84) (dt tX3_ledBy 27 rfl) (by decide) ?_
          refine M_ald_all X hd (dt tX3_ledBy 28 rfl) (by decide) ?_
          refine J_topi hk ?_
          refine J_iaddN X (dt tX3_ledBy 29 rfl) ?_
          refine J_iconst X (nI 1) (dt tX3_ledBy 30 rfl) (by decide) ?_
          refine J_isubN X (dt tX3_ledBy 31 rfl) (by omega) ?_
          refine J_iload_n X (dt tX3_ledBy 32 rfl) 1 rfl ?_
          refine J_isubN X (dt tX3_ledBy 33 rfl) (by omega) ?_
          refine M_ald_all X hd (dt tX3_ledBy 34 rfl) (by omega) ?_
          exact J_iret X rr (dt tX3_ledBy 35 rfl) (Nat.zero_le _) (Nat.zero_le _) ⟨congrArg (fun z => some (Value.int z)) (by have e9 : (nI xi).toNatClampNeg = xi := nI_clamp (by omega); unfold m_ledBy; rw [e9]; exact ((if_neg c1).trans ((if_neg c2).trans ((if_pos c3).trans (if_pos hy)))).symm), rfl⟩
        · refine J_aload_n X (dt tX3_ledBy 18 rfl) 0 rfl ?_
          refine M_get_all X (dt tX3_ledBy 19 rfl) ?_
          refine J_iload_n X (dt tX3_ledBy 20 rfl) 2 rfl ?_
          refine J_if_ne X 44 (dt tX3_ledBy 21 rfl) (by decide) (fun _ => ?_) (fun c9 => absurd c9 (hy))
          refine J_bipush X (nI 76) (dt tX3_ledBy 24 rfl) (by decide) ?_
          refine J_aload_n X (dt tX3_ledBy 25 rfl) 0 rfl ?_
          refine M_get_all X (dt tX3_ledBy 26 rfl) ?_
          refine J_bipush X (nI 84) (dt tX3_ledBy 27 rfl) (by decide) ?_
          refine M_ald_all X hd (dt tX3_ledBy 28 rfl) (by decide) ?_
          refine J_topi hk ?_
          refine J_iaddN X (dt tX3_ledBy 29 rfl) ?_
          refine J_iconst X (nI 1) (dt tX3_ledBy 30 rfl) (by decide) ?_
          refine J_isubN X (dt tX3_ledBy 31 rfl) (by omega) ?_
          refine J_iload_n X (dt tX3_ledBy 32 rfl) 1 rfl ?_
          refine J_isubN X (dt tX3_ledBy 33 rfl) (by omega) ?_
          refine M_ald_all X hd (dt tX3_ledBy 34 rfl) (by omega) ?_
          exact J_iret X rr (dt tX3_ledBy 35 rfl) (Nat.zero_le _) (Nat.zero_le _) ⟨congrArg (fun z => some (Value.int z)) (by have e9 : (nI xi).toNatClampNeg = xi := nI_clamp (by omega); unfold m_ledBy; rw [e9]; exact ((if_neg c1).trans ((if_neg c2).trans ((if_pos c3).trans (if_neg hy)))).symm), rfl⟩
      · refine J_ldc X (dt tX3_ledBy 16 rfl) q2000 ?_
        exact J_iret X rr (dt tX3_ledBy 17 rfl) (Nat.zero_le _) (Nat.zero_le _) ⟨congrArg (fun z => some (Value.int z)) ((if_neg c1).trans ((if_neg c2).trans (if_neg c3))).symm, rfl⟩
    · refine J_ldc X (dt tX3_ledBy 8 rfl) q1903 ?_
      exact J_iret X rr (dt tX3_ledBy 9 rfl) (Nat.zero_le _) (Nat.zero_le _) ⟨congrArg (fun z => some (Value.int z)) ((if_neg c1).trans (if_pos c2)).symm, rfl⟩
def m_nxv (σ : MS) (j : Nat) (f : Int32) (i : Nat) : Int32 := f + m_quot (m_apart σ i j - m_gains σ i j * f) (m_gains σ i j) i j
def m_nx (σ : MS) (j : Nat) (f : Int32) : Nat → Int32
  | 0 => -1
  | i + 1 => if nI i = nI j then m_nx σ j f i else if m_has σ i = 0 then m_nx σ j f i else if m_gains σ i j ≤ 0 then m_nx σ j f i else if m_nx σ j f i = -1 then m_nxv σ j f i else if m_nx σ j f i ≤ m_nxv σ j f i then m_nx σ j f i else m_nxv σ j f i
abbrev cX3_nextOther : ByteArray := prog_12_method_42_code
def yX3_nextOther : MethodName := ⟨RX3, "nextOther", "(II)I"⟩
theorem tX3_nextOther : dtab cX3_nextOther [(0, .iconst (-1), 1, 1), (1, .istore_n 3, 1, 2), (2, .iconst 0, 1, 3), (3, .istore 4, 2, 5), (5, .iload 4, 2, 7), (7, .bipush 8, 2, 9), (9, .if_icmp .ge 135, 3, 12), (12, .iload 4, 2, 14), (14, .iload_n 1, 1, 15), (15, .if_icmp .eq 123, 3, 18), (18, .aload_n 0, 1, 19), (19, .iload 4, 2, 21), (21, .invokevirtual 47, 3, 24), (24, .ifCond .eq 114, 3, 27), (27, .aload_n 0, 1, 28), (28, .getfield 7, 3, 31), (31, .bipush 9, 2, 33), (33, .iload_n 1, 1, 34), (34, .iadd, 1, 35), (35, .iaload, 1, 36), (36, .aload_n 0, 1, 37), (37, .getfield 7, 3, 40), (40, .bipush 9, 2, 42), (42, .iload 4, 2, 44), (44, .iadd, 1, 45), (45, .iaload, 1, 46), (46, .isub, 1, 47), (47, .istore 5, 2, 49), (49, .aload_n 0, 1, 50), (50, .getfield 7, 3, 53), (53, .bipush 17, 2, 55), (55, .iload 4, 2, 57), (57, .iadd, 1, 58), (58, .iaload, 1, 59), (59, .aload_n 0, 1, 60), (60, .getfield 7, 3, 63), (63, .bipush 17, 2, 65), (65, .iload_n 1, 1, 66), (66, .iadd, 1, 67), (67, .iaload, 1, 68), (68, .isub, 1, 69), (69, .istore 6, 2, 71), (71, .iload 6, 2, 73), (73, .ifCond .le 65, 3, 76), (76, .iload 5, 2, 78), (78, .iload 6, 2, 80), (80, .iload_n 2, 1, 81), (81, .imul, 1, 82), (82, .isub, 1, 83), (83, .istore 7, 2, 85), (85, .iload 7, 2, 87), (87, .iload 6, 2, 89), (89, .irem, 1, 90), (90, .ifCond .ne 17, 3, 93), (93, .iload 4, 2, 95), (95, .iload_n 1, 1, 96), (96, .if_icmp .ge 11, 3, 99), (99, .iload 7, 2, 101), (101, .iload 6, 2, 103), (103, .idiv, 1, 104), (104, .goto 10, 3, 107), (107, .iload 7, 2, 109), (109, .iload 6, 2, 111), (111, .idiv, 1, 112), (112, .iconst 1, 1, 113), (113, .iadd, 1, 114), (114, .istore 8, 2, 116), (116, .iload_n 3, 1, 117), (117, .iconst (-1), 1, 118), (118, .if_icmp .eq 11, 3, 121), (121, .iload_n 2, 1, 122), (122, .iload 8, 2, 124), (124, .iadd, 1, 125), (125, .iload_n 3, 1, 126), (126, .if_icmp .ge 10, 3, 129), (129, .iload_n 2, 1, 130), (130, .iload 8, 2, 132), (132, .iadd, 1, 133), (133, .goto 4, 3, 136), (136, .iload_n 3, 1, 137), (137, .istore_n 3, 1, 138), (138, .iinc 4 1, 3, 141), (141, .goto (-136), 3, 144), (144, .iload_n 3, 1, 145), (145, .ireturn, 1, 146)] := by unfold dtab; decide +kernel
theorem okX3_nextOther : okY yX3_nextOther 2 := by decide +kernel
set_option maxHeartbeats 4000000 in
theorem c_nextOther (l : Launch) (D : va_G) {h0 : PH} {m : Nat} {ar : Nat → Nat} (hd : md m ar) (σ : MS) (j : Nat) (f : Int32) (hj : j < 8) : Ct l D yX3_nextOther cX3_nextOther 9 (some .int) (rmM 1 21) [.ref m, .int (nI j), .int f] (mh h0 m ar σ) (PM h0 m ar (some (.int (m_nx σ j f 8))) σ) := by
  refine Ct.of (by decide) rfl (fun Γ X rr hmn => ?_)
  have X : Cx l D cX3_nextOther RX3 9 (rmM 1 21) Γ := X
  show J Γ (mh h0 m ar σ) 0 0 0 [(0, .ref m), (1, .int (nI j)), (2, .int f)] []
  refine J_iconst X (-1) (dt tX3_nextOther 0 rfl) (by decide) ?_
  refine J_istore_n X (lv2 := [(3, .int (-1)), (0, .ref m), (1, .int (nI j)), (2, .int f)]) (dt tX3_nextOther 1 rfl) rfl rfl rfl ?_
  refine J_iconst X (nI 0) (dt tX3_nextOther 2 rfl) (by decide) ?_
  refine J_istore X (lv2 := [(4, .int (nI 0)), (3, .int (-1)), (0, .ref m), (1, .int (nI j)), (2, .int f)]) (dt tX3_nextOther 3 rfl) rfl rfl ?_
  refine J_sub [2, 3, 4, 1, 0] rfl ?_
  refine up_to 8 (P := fun i1 => J Γ (mh h0 m ar σ) 0 0 5 [(0, .ref m), (1, .int (nI j)), (2, .int f), (3, .int (m_nx σ j f i1)), (4, .int (nI i1))] []) ?_ ?_
  · show J Γ (mh h0 m ar σ) 0 0 5 [(0, .ref m), (1, .int (nI j)), (2, .int f), (3, .int (m_nx σ j f 8)), (4, .int (nI 8))] []
    refine J_iload X (dt tX3_nextOther 4 rfl) 4 rfl ?_
    refine J_bipush X (nI 8) (dt tX3_nextOther 5 rfl) (by decide) ?_
    refine J_icmp_ge X 144 (dt tX3_nextOther 6 rfl) (by decide) (fun _ => ?_) (fun c9 => absurd (nI_le (Nat.le_refl 8) (by decide)) c9)
    refine J_iload_n X (dt tX3_nextOther 83 rfl) 3 rfl ?_
    exact J_iret X rr (dt tX3_nextOther 84 rfl) (Nat.zero_le _) (Nat.zero_le _) ⟨rfl, rfl⟩
  · intro i1 hi1 ih
    refine J_iload X (dt tX3_nextOther 4 rfl) 4 rfl ?_
    refine J_bipush X (nI 8) (dt tX3_nextOther 5 rfl) (by decide) ?_
    refine J_icmp_ge X 144 (dt tX3_nextOther 6 rfl) (by decide) (fun c9 => absurd c9 (nI_ge hi1 (by decide))) (fun _ => ?_)
    refine J_iload X (dt tX3_nextOther 7 rfl) 4 rfl ?_
    refine J_iload_n X (dt tX3_nextOther 8 rfl) 1 rfl ?_
    have kj14 : ∀ v13 : Int32, v13 = (if (nI i1) = (nI j) then m_nx σ j f i1 else if (m_has σ i1) = 0 then m_nx σ j f i1 else if ((σ.1 0 (17 + i1)) - (σ.1 0 (17 + j))) ≤ 0 then m_nx σ j f i1 else if (m_nx σ j f i1) = (-1) then f + (if ((((σ.1 0 (9 + j)) - (σ.1 0 (9 + i1))) - (((σ.1 0 (17 + i1)) - (σ.1 0 (17 + j))) * f)) - (((σ.1 0 (9 + j)) - (σ.1 0 (9 + i1))) - (((σ.1 0 (17 + i1)) - (σ.1 0 (17 + j))) * f)) / ((σ.1 0 (17 + i1)) - (σ.1 0 (17 + j))) * ((σ.1 0 (17 + i1)) - (σ.1 0 (17 + j)))) = 0 then if (nI j) ≤ (nI i1) then ((((σ.1 0 (9 + j)) - (σ.1 0 (9 + i1))) - (((σ.1 0 (17 + i1)) - (σ.1 0 (17 + j))) * f)) / ((σ.1 0 (17 + i1)) - (σ.1 0 (17 + j)))) + (nI 1) else (((σ.1 0 (9 + j)) - (σ.1 0 (9 + i1))) - (((σ.1 0 (17 + i1)) - (σ.1 0 (17 + j))) * f)) / ((σ.1 0 (17 + i1)) - (σ.1 0 (17 + j))) else ((((σ.1 0 (9 + j)) - (σ.1 0 (9 + i1))) - (((σ.1 0 (17 + i1)) - (σ.1 0 (17 + j))) * f)) / ((σ.1 0 (17 + i1)) - (σ.1 0 (17 + j)))) + (nI 1)) else if (m_nx σ j f i1) ≤ (f + (if ((((σ.1 0 (9 + j)) - (σ.1 0 (9 + i1))) - (((σ.1 0 (17 + i1)) - (σ.1 0 (17 + j))) * f)) - (((σ.1 0 (9 + j)) - (σ.1 0 (9 + i1))) - (((σ.1 0 (17 + i1)) - (σ.1 0 (17 + j))) * f)) / ((σ.1 0 (17 + i1)) - (σ.1 0 (17 + j))) * ((σ.1 0 (17 + i1)) - (σ.1 0 (17 + j)))) = 0 then if (nI j) ≤ (nI i1) then ((((σ.1 0 (9 + j)) - (σ.1 0 (9 + i1))) - (((σ.1 0 (17 + i1)) - (σ.1 0 (17 + j))) * f)) / ((σ.1 0 (17 + i1)) - (σ.1 0 (17 + j)))) + (nI 1) else (((σ.1 0 (9 + j)) - (σ.1 0 (9 + i1))) - (((σ.1 0 (17 + i1)) - (σ.1 0 (17 + j))) * f)) / ((σ.1 0 (17 + i1)) - (σ.1 0 (17 + j))) else ((((σ.1 0 (9 + j)) - (σ.1 0 (9 + i1))) - (((σ.1 0 (17 + i1)) - (σ.1 0 (17 + j))) * f)) / ((σ.1 0 (17 + i1)) - (σ.1 0 (17 + j)))) + (nI 1))) then m_nx σ j f i1 else f + (if ((((σ.1 0 (9 + j)) - (σ.1 0 (9 + i1))) - (((σ.1 0 (17 + i1)) - (σ.1 0 (17 + j))) * f)) - (((σ.1 0 (9 + j)) - (σ.1 0 (9 + i1))) - (((σ.1 0 (17 + i1)) - (σ.1 0 (17 + j))) * f)) / ((σ.1 0 (17 + i1)) - (σ.1 0 (17 + j))) * ((σ.1 0 (17 + i1)) - (σ.1 0 (17 + j)))) = 0 then if (nI j) ≤ (nI i1) then ((((σ.1 0 (9 + j)) - (σ.1 0 (9 + i1))) - (((σ.1 0 (17 + i1)) - (σ.1 0 (17 + j))) * f)) / ((σ.1 0 (17 + i1)) - (σ.1 0 (17 + j)))) + (nI 1) else (((σ.1 0 (9 + j)) - (σ.1 0 (9 + i1))) - (((σ.1 0 (17 + i1)) - (σ.1 0 (17 + j))) * f)) / ((σ.1 0 (17 + i1)) - (σ.1 0 (17 + j))) else ((((σ.1 0 (9 + j)) - (σ.1 0 (9 + i1))) - (((σ.1 0 (17 + i1)) - (σ.1 0 (17 + j))) * f)) / ((σ.1 0 (17 + i1)) - (σ.1 0 (17 + j)))) + (nI 1))) → J Γ (mh h0 m ar σ) 0 0 138 [(0, .ref m), (1, .int (nI j)), (2, .int f), (3, .int v13), (4, .int (nI i1))] [] := by
      intro v13 ev13
      refine J_iinc X (lv2 := [(4, .int (nI (i1 + 1))), (0, .ref m), (1, .int (nI j)), (2, .int f), (3, .int v13)]) (dt tX3_nextOther 81 rfl) 4 (nI (i1 + 1)) rfl (nI_add i1 1) rfl rfl ?_
      refine J_goto X (tgt := 5) (dt tX3_nextOther 82 rfl) (by decide) ?_
      refine J_sub [1, 2, 3, 4, 0] rfl ?_
      have e9 : v13 = m_nx σ j f (i1 + 1) := by rw [m_nx]; exact ev13
      rw [← e9] at ih
      exact ih
    refine J_icmp_eq X 138 (dt tX3_nextOther 9 rfl) (by decide) (fun c2 => ?_) (fun c2 => ?_)
    · exact kj14 _ (if_pos c2).symm
    · refine J_aload_n X (dt tX3_nextOther 10 rfl) 0 rfl ?_
      refine J_iload X (dt tX3_nextOther 11 rfl) 4 rfl ?_
      refine M_callV (rest := []) X (dt tX3_nextOther 12 rfl) (c_has l D hd σ i1 (by omega)) (lw_V q1904 q1906 qs38 q86 q1907) okX3_has rfl rfl ⟨Nat.le_of_ble_eq_true rfl, Nat.le_of_ble_eq_true rfl⟩ rfl (Nat.le_of_ble_eq_true rfl) (Nat.zero_le _) (Nat.zero_le _) ?_
      refine J_if_eq X 138 (dt tX3_nextOther 13 rfl) (by decide) (fun c3 => ?_) (fun c3 => ?_)
      · exact kj14 _ ((if_neg c2).trans (if_pos c3)).symm
      · refine J_aload_n X (dt tX3_nextOther 14 rfl) 0 rfl ?_
        refine M_get_all X (dt tX3_nextOther 15 rfl) ?_
        refine J_bipush X (nI 9) (dt tX3_nextOther 16 rfl) (by decide) ?_
        refine J_iload_n X (dt tX3_nextOther 17 rfl) 1 rfl ?_
        refine J_iaddN X (dt tX3_nextOther 18 rfl) ?_
        refine M_ald_all X hd (dt tX3_nextOther 19 rfl) (by omega) ?_
        refine J_aload_n X (dt tX3_nextOther 20 rfl) 0 rfl ?_
        refine M_get_all X (dt tX3_nextOther 21 rfl) ?_
        refine J_bipush X (nI 9) (dt tX3_nextOther 22 rfl) (by decide) ?_
        refine J_iload X (dt tX3_nextOther 23 rfl) 4 rfl ?_
        refine J_iaddN X (dt tX3_nextOther 24 rfl) ?_
        refine M_ald_all X hd (dt tX3_nextOther 25 rfl) (by omega) ?_
        refine J_isub X (dt tX3_nextOther 26 rfl) ?_
        refine J_istore X (lv2 := [(5, .int ((σ.1 0 (9 + j)) - (σ.1 0 (9 + i1)))), (0, .ref m), (1, .int (nI j)), (2, .int f), (3, .int (m_nx σ j f i1)), (4, .int (nI i1))]) (dt tX3_nextOther 27 rfl) rfl rfl ?_
        refine J_aload_n X (dt tX3_nextOther 28 rfl) 1 rfl ?_
        refine M_get_all X (dt tX3_nextOther 29 rfl) ?_
        refine J_bipush X (nI 17) (dt tX3_nextOther 30 rfl) (by decide) ?_
        refine J_iload X (dt tX3_nextOther 31 rfl) 5 rfl ?_
        refine J_iaddN X (dt tX3_nextOther 32 rfl) ?_
        refine M_ald_all X hd (dt tX3_nextOther 33 rfl) (by omega) ?_
        refine J_aload_n X (dt tX3_nextOther 34 rfl) 1 rfl ?_
        refine M_get_all X (dt tX3_nextOther 35 rfl) ?_
        refine J_bipush X (nI 17) (dt tX3_nextOther 36 rfl) (by decide) ?_
        refine J_iload_n X (dt tX3_nextOther 37 rfl) 2 rfl ?_
        refine J_iaddN X (dt tX3_nextOther 38 rfl) ?_
        refine M_ald_all X hd (dt tX3_nextOther 39 rfl) (by omega) ?_
        refine J_isub X (dt tX3_nextOther 40 rfl) ?_
        refine J_istore X (lv2 := [(6, .int ((σ.1 0 (17 + i1)) - (σ.1 0 (17 + j)))), (5, .int ((σ.1 0 (9 + j)) - (σ.1 0 (9 + i1)))), (0, .ref m), (1, .int (nI j)), (2, .int f), (3, .int (m_nx σ j f i1)), (4, .int (nI i1))]) (dt tX3_nextOther 41 rfl) rfl rfl ?_
        refine J_iload X (dt tX3_nextOther 42 rfl) 0 rfl ?_
        refine J_if_le X 138 (dt tX3_nextOther 43 rfl) (by decide) (fun c4 => ?_) (fun c4 => ?_)
        · refine J_sub [2, 3, 4, 5, 6] rfl ?_
          exact kj14 _ ((if_neg c2).trans ((if_neg c3).trans (if_pos c4))).symm
        · have hg : ¬ (σ.1 0 (17 + i1)) - (σ.1 0 (17 + j)) = 0 := fun z => c4 (by rw [z]; exact Int32.le_refl 0)
          refine J_iload X (dt tX3_nextOther 44 rfl) 1 rfl ?_
          refine J_iload X (dt tX3_nextOther 45 rfl) 0 rfl ?_
          refine J_iload_n X (dt tX3_nextOther 46 rfl) 4 rfl ?_
          refine J_imul X (dt tX3_nextOther 47 rfl) ?_
          refine J_isub X (dt tX3_nextOther 48 rfl) ?_
          refine J_istore X (lv2 := [(7, .int (((σ.1 0 (9 + j)) - (σ.1 0 (9 + i1))) - (((σ.1 0 (17 + i1)) - (σ.1 0 (17 + j))) * f))), (6, .int ((σ.1 0 (17 + i1)) - (σ.1 0 (17 + j)))), (5, .int ((σ.1 0 (9 + j)) - (σ.1 0 (9 + i1)))), (0, .ref m), (1, .int (nI j)), (2, .int f), (3, .int (m_nx σ j f i1)), (4, .int (nI i1))]) (dt tX3_nextOther 49 rfl) rfl rfl ?_
          refine J_iload X (dt tX3_nextOther 50 rfl) 0 rfl ?_
          refine J_iload X (dt tX3_nextOther 51 rfl) 1 rfl ?_
          refine J_irem X (dt tX3_nextOther 52 rfl) hg ?_
          suffices ki8 : ∀ v7 : Int32, v7 = (if ((((σ.1 0 (9 + j)) - (σ.1 0 (9 + i1))) - (((σ.1 0 (17 + i1)) - (σ.1 0 (17 + j))) * f)) - (((σ.1 0 (9 + j)) - (σ.1 0 (9 + i1))) - (((σ.1 0 (17 + i1)) - (σ.1 0 (17 + j))) * f)) / ((σ.1 0 (17 + i1)) - (σ.1 0 (17 + j))) * ((σ.1 0 (17 + i1)) - (σ.1 0 (17 + j)))) = 0 then if (nI j) ≤ (nI i1) then ((((σ.1 0 (9 + j)) - (σ.1 0 (9 + i1))) - (((σ.1 0 (17 + i1)) - (σ.1 0 (17 + j))) * f)) / ((σ.1 0 (17 + i1)) - (σ.1 0 (17 + j)))) + (nI 1) else (((σ.1 0 (9 + j)) - (σ.1 0 (9 + i1))) - (((σ.1 0 (17 + i1)) - (σ.1 0 (17 + j))) * f)) / ((σ.1 0 (17 + i1)) - (σ.1 0 (17 + j))) else ((((σ.1 0 (9 + j)) - (σ.1 0 (9 + i1))) - (((σ.1 0 (17 + i1)) - (σ.1 0 (17 + j))) * f)) / ((σ.1 0 (17 + i1)) - (σ.1 0 (17 + j)))) + (nI 1)) → J Γ (mh h0 m ar σ) 0 0 114 [(7, .int (((σ.1 0 (9 + j)) - (σ.1 0 (9 + i1))) - (((σ.1 0 (17 + i1)) - (σ.1 0 (17 + j))) * f))), (6, .int ((σ.1 0 (17 + i1)) - (σ.1 0 (17 + j)))), (5, .int ((σ.1 0 (9 + j)) - (σ.1 0 (9 + i1)))), (0, .ref m), (1, .int (nI j)), (2, .int f), (3, .int (m_nx σ j f i1)), (4, .int (nI i1))] [.int v7] by
            refine J_if_ne X 107 (dt tX3_nextOther 53 rfl) (by decide) (fun c5 => ?_) (fun c5 => ?_)
            · refine J_iload X (dt tX3_nextOther 61 rfl) 0 rfl ?_
              refine J_iload X (dt tX3_nextOther 62 rfl) 1 rfl ?_
              refine J_idiv X (dt tX3_nextOther 63 rfl) hg ?_
              refine J_iconst X (nI 1) (dt tX3_nextOther 64 rfl) (by decide) ?_
              refine J_iadd X (dt tX3_nextOther 65 rfl) ?_
              exact ki8 _ (if_neg c5).symm
            · refine J_iload X (dt tX3_nextOther 54 rfl) 7 rfl ?_
              refine J_iload_n X (dt tX3_nextOther 55 rfl) 4 rfl ?_
              refine J_icmp_ge X 107 (dt tX3_nextOther 56 rfl) (by decide) (fun c6 => ?_) (fun c6 => ?_)
              · refine J_iload X (dt tX3_nextOther 61 rfl) 0 rfl ?_
                refine J_iload X (dt tX3_nextOther 62 rfl) 1 rfl ?_
                refine J_idiv X (dt tX3_nextOther 63 rfl) hg ?_
                refine J_iconst X (nI 1) (dt tX3_nextOther 64 rfl) (by decide) ?_
                refine J_iadd X (dt tX3_nextOther 65 rfl) ?_
                exact ki8 _ ((if_pos c5).trans (if_pos c6)).symm
              · refine J_iload X (dt tX3_nextOther 57 rfl) 0 rfl ?_
                refine J_iload X (dt tX3_nextOther 58 rfl) 1 rfl ?_
                refine J_idiv X (dt tX3_nextOther 59 rfl) hg ?_
                refine J_goto X (tgt := 114) (dt tX3_nextOther 60 rfl) (by decide) ?_
                exact ki8 _ ((if_pos c5).trans (if_neg c6)).symm
          rintro _ rfl
          refine J_istore X (lv2 := [(8, .int (if ((((σ.1 0 (9 + j)) - (σ.1 0 (9 + i1))) - (((σ.1 0 (17 + i1)) - (σ.1 0 (17 + j))) * f)) - (((σ.1 0 (9 + j)) - (σ.1 0 (9 + i1))) - (((σ.1 0 (17 + i1)) - (σ.1 0 (17 + j))) * f)) / ((σ.1 0 (17 + i1)) - (σ.1 0 (17 + j))) * ((σ.1 0 (17 + i1)) - (σ.1 0 (17 + j)))) = 0 then if (nI j) ≤ (nI i1) then ((((σ.1 0 (9 + j)) - (σ.1 0 (9 + i1))) - (((σ.1 0 (17 + i1)) - (σ.1 0 (17 + j))) * f)) / ((σ.1 0 (17 + i1)) - (σ.1 0 (17 + j)))) + (nI 1) else (((σ.1 0 (9 + j)) - (σ.1 0 (9 + i1))) - (((σ.1 0 (17 + i1)) - (σ.1 0 (17 + j))) * f)) / ((σ.1 0 (17 + i1)) - (σ.1 0 (17 + j))) else ((((σ.1 0 (9 + j)) - (σ.1 0 (9 + i1))) - (((σ.1 0 (17 + i1)) - (σ.1 0 (17 + j))) * f)) / ((σ.1 0 (17 + i1)) - (σ.1 0 (17 + j)))) + (nI 1))), (7, .int (((σ.1 0 (9 + j)) - (σ.1 0 (9 + i1))) - (((σ.1 0 (17 + i1)) - (σ.1 0 (17 + j))) * f))), (6, .int ((σ.1 0 (17 + i1)) - (σ.1 0 (17 + j)))), (5, .int ((σ.1 0 (9 + j)) - (σ.1 0 (9 + i1)))), (0, .ref m), (1, .int (nI j)), (2, .int f), (3, .int (m_nx σ j f i1)), (4, .int (nI i1))]) (dt tX3_nextOther 66 rfl) rfl rfl ?_
          refine J_iload_n X (dt tX3_nextOther 67 rfl) 7 rfl ?_
          refine J_iconst X (-1) (dt tX3_nextOther 68 rfl) (by decide) ?_
          suffices ki12 : ∀ v11 : Int32, v11 = (if (m_nx σ j f i1) = (-1) then f + (if ((((σ.1 0 (9 + j)) - (σ.1 0 (9 + i1))) - (((σ.1 0 (17 + i1)) - (σ.1 0 (17 + j))) * f)) - (((σ.1 0 (9 + j)) - (σ.1 0 (9 + i1))) - (((σ.1 0 (17 + i1)) - (σ.1 0 (17 + j))) * f)) / ((σ.1 0 (17 + i1)) - (σ.1 0 (17 + j))) * ((σ.1 0 (17 + i1)) - (σ.1 0 (17 + j)))) = 0 then if (nI j) ≤ (nI i1) then ((((σ.1 0 (9 + j)) - (σ.1 0 (9 + i1))) - (((σ.1 0 (17 + i1)) - (σ.1 0 (17 + j))) * f)) / ((σ.1 0 (17 + i1)) - (σ.1 0 (17 + j)))) + (nI 1) else (((σ.1 0 (9 + j)) - (σ.1 0 (9 + i1))) - (((σ.1 0 (17 + i1)) - (σ.1 0 (17 + j))) * f)) / ((σ.1 0 (17 + i1)) - (σ.1 0 (17 + j))) else ((((σ.1 0 (9 + j)) - (σ.1 0 (9 + i1))) - (((σ.1 0 (17 + i1)) - (σ.1 0 (17 + j))) * f)) / ((σ.1 0 (17 + i1)) - (σ.1 0 (17 + j)))) + (nI 1)) else if (m_nx σ j f i1) ≤ (f + (if ((((σ.1 0 (9 + j)) - (σ.1 0 (9 + i1))) - (((σ.1 0 (17 + i1)) - (σ.1 0 (17 + j))) * f)) - (((σ.1 0 (9 + j)) - (σ.1 0 (9 + i1))) - (((σ.1 0 (17 + i1)) - (σ.1 0 (17 + j))) * f)) / ((σ.1 0 (17 + i1)) - (σ.1 0 (17 + j))) * ((σ.1 0 (17 + i1)) - (σ.1 0 (17 + j)))) = 0 then if (nI j) ≤ (nI i1) then ((((σ.1 0 (9 + j)) - (σ.1 0 (9 + i1))) - (((σ.1 0 (17 + i1)) - (σ.1 0 (17 + j))) * f)) / ((σ.1 0 (17 + i1)) - (σ.1 0 (17 + j)))) + (nI 1) else (((σ.1 0 (9 + j)) - (σ.1 0 (9 + i1))) - (((σ.1 0 (17 + i1)) - (σ.1 0 (17 + j))) * f)) / ((σ.1 0 (17 + i1)) - (σ.1 0 (17 + j))) else ((((σ.1 0 (9 + j)) - (σ.1 0 (9 + i1))) - (((σ.1 0 (17 + i1)) - (σ.1 0 (17 + j))) * f)) / ((σ.1 0 (17 + i1)) - (σ.1 0 (17 + j)))) + (nI 1))) then m_nx σ j f i1 else f + (if ((((σ.1 0 (9 + j)) - (σ.1 0 (9 + i1))) - (((σ.1 0 (17 + i1)) - (σ.1 0 (17 + j))) * f)) - (((σ.1 0 (9 + j)) - (σ.1 0 (9 + i1))) - (((σ.1 0 (17 + i1)) - (σ.1 0 (17 + j))) * f)) / ((σ.1 0 (17 + i1)) - (σ.1 0 (17 + j))) * ((σ.1 0 (17 + i1)) - (σ.1 0 (17 + j)))) = 0 then if (nI j) ≤ (nI i1) then ((((σ.1 0 (9 + j)) - (σ.1 0 (9 + i1))) - (((σ.1 0 (17 + i1)) - (σ.1 0 (17 + j))) * f)) / ((σ.1 0 (17 + i1)) - (σ.1 0 (17 + j)))) + (nI 1) else (((σ.1 0 (9 + j)) - (σ.1 0 (9 + i1))) - (((σ.1 0 (17 + i1)) - (σ.1 0 (17 + j))) * f)) / ((σ.1 0 (17 + i1)) - (σ.1 0 (17 + j))) else ((((σ.1 0 (9 + j)) - (σ.1 0 (9 + i1))) - (((σ.1 0 (17 + i1)) - (σ.1 0 (17 + j))) * f)) / ((σ.1 0 (17 + i1)) - (σ.1 0 (17 + j)))) + (nI 1))) → J Γ (mh h0 m ar σ) 0 0 137 [(8, .int (if ((((σ.1 0 (9 + j)) - (σ.1 0 (9 + i1))) - (((σ.1 0 (17 + i1)) - (σ.1 0 (17 + j))) * f)) - (((σ.1 0 (9 + j)) - (σ.1 0 (9 + i1))) - (((σ.1 0 (17 + i1)) - (σ.1 0 (17 + j))) * f)) / ((σ.1 0 (17 + i1)) - (σ.1 0 (17 + j))) * ((σ.1 0 (17 + i1)) - (σ.1 0 (17 + j)))) = 0 then if (nI j) ≤ (nI i1) then ((((σ.1 0 (9 + j)) - (σ.1 0 (9 + i1))) - (((σ.1 0 (17 + i1)) - (σ.1 0 (17 + j))) * f)) / ((σ.1 0 (17 + i1)) - (σ.1 0 (17 + j)))) + (nI 1) else (((σ.1 0 (9 + j)) - (σ.1 0 (9 + i1))) - (((σ.1 0 (17 + i1)) - (σ.1 0 (17 + j))) * f)) / ((σ.1 0 (17 + i1)) - (σ.1 0 (17 + j))) else ((((σ.1 0 (9 + j)) - (σ.1 0 (9 + i1))) - (((σ.1 0 (17 + i1)) - (σ.1 0 (17 + j))) * f)) / ((σ.1 0 (17 + i1)) - (σ.1 0 (17 + j)))) + (nI 1))), (7, .int (((σ.1 0 (9 + j)) - (σ.1 0 (9 + i1))) - (((σ.1 0 (17 + i1)) - (σ.1 0 (17 + j))) * f))), (6, .int ((σ.1 0 (17 + i1)) - (σ.1 0 (17 + j)))), (5, .int ((σ.1 0 (9 + j)) - (σ.1 0 (9 + i1)))), (0, .ref m), (1, .int (nI j)), (2, .int f), (3, .int (m_nx σ j f i1)), (4, .int (nI i1))] [.int v11] by
            refine J_icmp_eq X 129 (dt tX3_nextOther 69 rfl) (by decide) (fun c9 => ?_) (fun c9 => ?_)
            · refine J_iload_n X (dt tX3_nextOther 75 rfl) 6 rfl ?_
              refine J_iload X (dt tX3_nextOther 76 rfl) 0 rfl ?_
              refine J_iadd X (dt tX3_nextOther 77 rfl) ?_
              refine J_goto X (tgt := 137) (dt tX3_nextOther 78 rfl) (by decide) ?_
              exact ki12 _ (if_pos c9).symm
            · refine J_iload_n X (dt tX3_nextOther 70 rfl) 6 rfl ?_
              refine J_iload X (dt tX3_nextOther 71 rfl) 0 rfl ?_
              refine J_iadd X (dt tX3_nextOther 72 rfl) ?_
              refine J_iload_n X (dt tX3_nextOther 73 rfl) 7 rfl ?_
              refine J_icmp_ge X 136 (dt tX3_nextOther 74 rfl) (by decide) (fun c10 => ?_) (fun c10 => ?_)
              · refine J_iload_n X (dt tX3_nextOther 79 rfl) 7 rfl ?_
                exact ki12 _ ((if_neg c9).trans (if_pos c10)).symm
              · refine J_iload_n X (dt tX3_nextOther 75 rfl) 6 rfl ?_
                refine J_iload X (dt tX3_nextOther 76 rfl) 0 rfl ?_
                refine J_iadd X (dt tX3_nextOther 77 rfl) ?_
                refine J_goto X (tgt := 137) (dt tX3_nextOther 78 rfl) (by decide) ?_
                exact ki12 _ ((if_neg c9).trans (if_neg c10)).symm
          rintro _ rfl
          refine J_istore_n X (lv2 := [(3, .int (if (m_nx σ j f i1) = (-1) then f + (if ((((σ.1 0 (9 + j)) - (σ.1 0 (9 + i1))) - (((σ.1 0 (17 + i1)) - (σ.1 0 (17 + j))) * f)) - (((σ.1 0 (9 + j)) - (σ.1 0 (9 + i1))) - (((σ.1 0 (17 + i1)) - (σ.1 0 (17 + j))) * f)) / ((σ.1 0 (17 + i1)) - (σ.1 0 (17 + j))) * ((σ.1 0 (17 + i1)) - (σ.1 0 (17 + j)))) = 0 then if (nI j) ≤ (nI i1) then ((((σ.1 0 (9 + j)) - (σ.1 0 (9 + i1))) - (((σ.1 0 (17 + i1)) - (σ.1 0 (17 + j))) * f)) / ((σ.1 0 (17 + i1)) - (σ.1 0 (17 + j)))) + (nI 1) else (((σ.1 0 (9 + j)) - (σ.1 0 (9 + i1))) - (((σ.1 0 (17 + i1)) - (σ.1 0 (17 + j))) * f)) / ((σ.1 0 (17 + i1)) - (σ.1 0 (17 + j))) else ((((σ.1 0 (9 + j)) - (σ.1 0 (9 + i1))) - (((σ.1 0 (17 + i1)) - (σ.1 0 (17 + j))) * f)) / ((σ.1 0 (17 + i1)) - (σ.1 0 (17 + j)))) + (nI 1)) else if (m_nx σ j f i1) ≤ (f + (if ((((σ.1 0 (9 + j)) - (σ.1 0 (9 + i1))) - (((σ.1 0 (17 + i1)) - (σ.1 0 (17 + j))) * f)) - (((σ.1 0 (9 + j)) - (σ.1 0 (9 + i1))) - (((σ.1 0 (17 + i1)) - (σ.1 0 (17 + j))) * f)) / ((σ.1 0 (17 + i1)) - (σ.1 0 (17 + j))) * ((σ.1 0 (17 + i1)) - (σ.1 0 (17 + j)))) = 0 then if (nI j) ≤ (nI i1) then ((((σ.1 0 (9 + j)) - (σ.1 0 (9 + i1))) - (((σ.1 0 (17 + i1)) - (σ.1 0 (17 + j))) * f)) / ((σ.1 0 (17 + i1)) - (σ.1 0 (17 + j)))) + (nI 1) else (((σ.1 0 (9 + j)) - (σ.1 0 (9 + i1))) - (((σ.1 0 (17 + i1)) - (σ.1 0 (17 + j))) * f)) / ((σ.1 0 (17 + i1)) - (σ.1 0 (17 + j))) else ((((σ.1 0 (9 + j)) - (σ.1 0 (9 + i1))) - (((σ.1 0 (17 + i1)) - (σ.1 0 (17 + j))) * f)) / ((σ.1 0 (17 + i1)) - (σ.1 0 (17 + j)))) + (nI 1))) then m_nx σ j f i1 else f + (if ((((σ.1 0 (9 + j)) - (σ.1 0 (9 + i1))) - (((σ.1 0 (17 + i1)) - (σ.1 0 (17 + j))) * f)) - (((σ.1 0 (9 + j)) - (σ.1 0 (9 + i1))) - (((σ.1 0 (17 + i1)) - (σ.1 0 (17 + j))) * f)) / ((σ.1 0 (17 + i1)) - (σ.1 0 (17 + j))) * ((σ.1 0 (17 + i1)) - (σ.1 0 (17 + j)))) = 0 then if (nI j) ≤ (nI i1) then ((((σ.1 0 (9 + j)) - (σ.1 0 (9 + i1))) - (((σ.1 0 (17 + i1)) - (σ.1 0 (17 + j))) * f)) / ((σ.1 0 (17 + i1)) - (σ.1 0 (17 + j)))) + (nI 1) else (((σ.1 0 (9 + j)) - (σ.1 0 (9 + i1))) - (((σ.1 0 (17 + i1)) - (σ.1 0 (17 + j))) * f)) / ((σ.1 0 (17 + i1)) - (σ.1 0 (17 + j))) else ((((σ.1 0 (9 + j)) - (σ.1 0 (9 + i1))) - (((σ.1 0 (17 + i1)) - (σ.1 0 (17 + j))) * f)) / ((σ.1 0 (17 + i1)) - (σ.1 0 (17 + j)))) + (nI 1)))), (8, .int (if ((((σ.1 0 (9 + j)) - (σ.1 0 (9 + i1))) - (((σ.1 0 (17 + i1)) - (σ.1 0 (17 + j))) * f)) - (((σ.1 0 (9 + j)) - (σ.1 0 (9 + i1))) - (((σ.1 0 (17 + i1)) - (σ.1 0 (17 + j))) * f)) / ((σ.1 0 (17 + i1)) - (σ.1 0 (17 + j))) * ((σ.1 0 (17 + i1)) - (σ.1 0 (17 + j)))) = 0 then if (nI j) ≤ (nI i1) then ((((σ.1 0 (9 + j)) - (σ.1 0 (9 + i1))) - (((σ.1 0 (17 + i1)) - (σ.1 0 (17 + j))) * f)) / ((σ.1 0 (17 + i1)) - (σ.1 0 (17 + j)))) + (nI 1) else (((σ.1 0 (9 + j)) - (σ.1 0 (9 + i1))) - (((σ.1 0 (17 + i1)) - (σ.1 0 (17 + j))) * f)) / ((σ.1 0 (17 + i1)) - (σ.1 0 (17 + j))) else ((((σ.1 0 (9 + j)) - (σ.1 0 (9 + i1))) - (((σ.1 0 (17 + i1)) - (σ.1 0 (17 + j))) * f)) / ((σ.1 0 (17 + i1)) - (σ.1 0 (17 + j)))) + (nI 1))), (7, .int (((σ.1 0 (9 + j)) - (σ.1 0 (9 + i1))) - (((σ.1 0 (17 + i1)) - (σ.1 0 (17 + j))) * f))), (6, .int ((σ.1 0 (17 + i1)) - (σ.1 0 (17 + j)))), (5, .int ((σ.1 0 (9 + j)) - (σ.1 0 (9 + i1)))), (0, .ref m), (1, .int (nI j)), (2, .int f), (4, .int (nI i1))]) (dt tX3_nextOther 80 rfl) rfl rfl rfl ?_
          refine J_sub [5, 6, 7, 0, 8] rfl ?_
          exact kj14 _ ((if_neg c2).trans ((if_neg c3).trans (if_neg c4))).symm
