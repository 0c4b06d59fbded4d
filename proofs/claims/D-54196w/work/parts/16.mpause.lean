/-! printed by gen/modelm.py -/
set_option maxRecDepth 100000
theorem q1990 : (Jvm.Cond.constantLong "LeadRacesModel" (101 : Nat) (500 : Int64)) ∈ lw_all := lw_g (lw_at lw_m9 2 rfl) rfl
theorem q1991 : (Jvm.Cond.methodLink "LeadRacesModel" (103 : Nat) ({ cls := "LeadRacesModel", name := "goesBy", desc := "()Z" } : Jvm.MethodName)) ∈ lw_all := lw_g (lw_at lw_m9 3 rfl) rfl
theorem q1993 : (Jvm.Cond.instanceMethod ({ cls := "LeadRacesModel", name := "goesBy", desc := "()Z" } : Jvm.MethodName)) ∈ lw_all := lw_g (lw_at lw_m9 5 rfl) rfl
theorem q1994 : (Jvm.Cond.code ({ cls := "LeadRacesModel", name := "goesBy", desc := "()Z" } : Jvm.MethodName) prog_12_method_20_code (3 : Nat) (Option.some Jvm.ClassFile.FieldType.boolean)) ∈ lw_all := lw_g (lw_at lw_m9 6 rfl) rfl
abbrev cX3_doPause : ByteArray := prog_12_method_25_code
def yX3_doPause : MethodName := ⟨RX3, "doPause", "(I)I"⟩
theorem tX3_doPause : dtab cX3_doPause [(0, .iload_n 1, 1, 1), (1, .i2l, 1, 2), (2, .lconst 1, 1, 3), (3, .ldc2_w 101, 3, 6), (6, .invokestatic 35, 3, 9), (9, .ifCond .ne 6, 3, 12), (12, .ldc 28, 2, 14), (14, .ireturn, 1, 15), (15, .aload_n 0, 1, 16), (16, .getfield 7, 3, 19), (19, .iconst 0, 1, 20), (20, .iaload, 1, 21), (21, .iload_n 1, 1, 22), (22, .iadd, 1, 23), (23, .sipush 9000, 3, 26), (26, .if_icmp .le 6, 3, 29), (29, .ldc 100, 2, 31), (31, .ireturn, 1, 32), (32, .iconst 0, 1, 33), (33, .istore_n 2, 1, 34), (34, .iconst 0, 1, 35), (35, .istore_n 3, 1, 36), (36, .iload_n 3, 1, 37), (37, .iload_n 1, 1, 38), (38, .if_icmp .ge 24, 3, 41), (41, .iload_n 2, 1, 42), (42, .aload_n 0, 1, 43), (43, .invokevirtual 103, 3, 46), (46, .ifCond .eq 7, 3, 49), (49, .iconst 1, 1, 50), (50, .goto 4, 3, 53), (53, .iconst 0, 1, 54), (54, .iadd, 1, 55), (55, .istore_n 2, 1, 56), (56, .iinc 3 1, 3, 59), (59, .goto (-23), 3, 62), (62, .iload_n 2, 1, 63), (63, .ireturn, 1, 64)] := by unfold dtab; decide +kernel
theorem okX3_doPause : okY yX3_doPause 1 := by decide +kernel
set_option maxHeartbeats 4000000 in
theorem c_doPause (l : Launch) (D : va_G) {h0 : PH} {m : Nat} {ar : Nat → Nat} (hd : md m ar) (σ : MS) (x : Int32) (hW : WF σ) : Ct l D yX3_doPause cX3_doPause 4 (some .int) (rmM 4 97) [.ref m, .int x] (mh h0 m ar σ) (PM h0 m ar (some (.int ((m_pause σ x).1))) ((m_pause σ x).2)) := by
  refine Ct.of (by decide) rfl (fun Γ X rr hmn => ?_)
  have X : Cx l D cX3_doPause RX3 4 (rmM 4 97) Γ := X
  show J Γ (mh h0 m ar σ) 0 0 0 [(0, .ref m), (1, .int x)] []
  refine J_iload_n X (dt tX3_doPause 0 rfl) 1 rfl ?_
  refine J_i2l X (dt tX3_doPause 1 rfl) ?_
  refine J_lconst X 1 (dt tX3_doPause 2 rfl) (by decide) ?_
  refine J_ldc2 X (dt tX3_doPause 3 rfl) q1990 ?_
  refine S_callS (rest := []) X (dt tX3_doPause 4 rfl) (c_in l D _ x.toInt64 1 (500) ) (lw_S q1893 q1894 q86 q1895) okX3_in rfl ⟨Nat.le_of_ble_eq_true rfl, Nat.le_of_ble_eq_true rfl⟩ rfl (Nat.le_of_ble_eq_true rfl) (Nat.zero_le _) (Nat.zero_le _) ?_
  refine J_if_ne X 15 (dt tX3_doPause 5 rfl) (by decide) (fun c1 => ?_) (fun c1 => ?_)
  · refine J_aload_n X (dt tX3_doPause 8 rfl) 0 rfl ?_
    refine M_get_all X (dt tX3_doPause 9 rfl) ?_
    refine J_iconst X (nI 0) (dt tX3_doPause 10 rfl) (by decide) ?_
    refine M_ald_all X hd (dt tX3_doPause 11 rfl) (by decide) ?_
    refine J_iload_n X (dt tX3_doPause 12 rfl) 1 rfl ?_
    refine J_iadd X (dt tX3_doPause 13 rfl) ?_
    refine J_sipush X (nI 9000) (dt tX3_doPause 14 rfl) (by decide) ?_
    refine J_icmp_le X 32 (dt tX3_doPause 15 rfl) (by decide) (fun c2 => ?_) (fun c2 => ?_)
    · obtain ⟨mm, h1m, h5m, rfl⟩ := m_in_1_500 c1
      refine J_iconst X (nI 0) (dt tX3_doPause 18 rfl) (by decide) ?_
      refine J_istore_n X (lv2 := [(2, .int (nI 0)), (0, .ref m), (1, .int (nI mm))]) (dt tX3_doPause 19 rfl) rfl rfl rfl ?_
      refine J_iconst X (nI 0) (dt tX3_doPause 20 rfl) (by decide) ?_
      refine J_istore_n X (lv2 := [(3, .int (nI 0)), (2, .int (nI 0)), (0, .ref m), (1, .int (nI mm))]) (dt tX3_doPause 21 rfl) rfl rfl rfl ?_
      refine J_sub [2, 3, 1, 0] rfl ?_
      refine up_to mm (P := fun i3 => J Γ (mh h0 m ar ((m_it σ i3).2)) 0 0 36 [(0, .ref m), (1, .int (nI mm)), (2, .int ((m_it σ i3).1)), (3, .int (nI i3))] []) ?_ ?_
      · show J Γ (mh h0 m ar ((m_it σ mm).2)) 0 0 36 [(0, .ref m), (1, .int (nI mm)), (2, .int ((m_it σ mm).1)), (3, .int (nI mm))] []
        refine J_iload_n X (dt tX3_doPause 22 rfl) 3 rfl ?_
        refine J_iload_n X (dt tX3_doPause 23 rfl) 1 rfl ?_
        refine J_icmp_ge X 62 (dt tX3_doPause 24 rfl) (by decide) (fun _ => ?_) (fun c9 => absurd (nI_le (Nat.le_refl mm) (by omega)) c9)
        refine J_iload_n X (dt tX3_doPause 36 rfl) 2 rfl ?_
        exact J_iret X rr (dt tX3_doPause 37 rfl) (Nat.zero_le _) (Nat.zero_le _) (pm_of (by unfold m_pause; rw [if_neg c1, if_pos c2, nI_clamp (by omega)]))
      · intro i3 hi3 ih
        refine J_iload_n X (dt tX3_doPause 22 rfl) 3 rfl ?_
        refine J_iload_n X (dt tX3_doPause 23 rfl) 1 rfl ?_
        refine J_icmp_ge X 62 (dt tX3_doPause 24 rfl) (by decide) (fun c9 => absurd c9 (nI_ge hi3 (by omega))) (fun _ => ?_)
        refine J_iload_n X (dt tX3_doPause 25 rfl) 2 rfl ?_
        refine J_aload_n X (dt tX3_doPause 26 rfl) 0 rfl ?_
        refine M_callV (rest := [.int ((m_it σ i3).1)]) X (dt tX3_doPause 27 rfl) (c_goesBy l D hd ((m_it σ i3).2) (hW.it i3)) (lw_V q1991 q1993 qs54 q86 q1994) okX3_goesBy rfl rfl ⟨Nat.le_of_ble_eq_true rfl, Nat.le_of_ble_eq_true rfl⟩ rfl (Nat.le_of_ble_eq_true rfl) (Nat.zero_le _) (Nat.zero_le _) ?_
        have kj6 : ∀ v5 : Int32, v5 = (if (m_byR ((m_it σ i3).2)) = 0 then nI 0 else nI 1) → J Γ (mh h0 m ar (m_byT ((m_it σ i3).2))) 0 0 54 [(0, .ref m), (1, .int (nI mm)), (2, .int ((m_it σ i3).1)), (3, .int (nI i3))] [.int v5, .int ((m_it σ i3).1)] := by
          intro v5 ev5
          refine J_iadd X (dt tX3_doPause 32 rfl) ?_
          refine J_istore_n X (lv2 := [(2, .int (((m_it σ i3).1) + v5)), (0, .ref m), (1, .int (nI mm)), (3, .int (nI i3))]) (dt tX3_doPause 33 rfl) rfl rfl rfl ?_
          refine J_iinc X (lv2 := [(3, .int (nI (i3 + 1))), (2, .int (((m_it σ i3).1) + v5)), (0, .ref m), (1, .int (nI mm))]) (dt tX3_doPause 34 rfl) 3 (nI (i3 + 1)) rfl (nI_add i3 1) rfl rfl ?_
          refine J_goto X (tgt := 36) (dt tX3_doPause 35 rfl) (by decide) ?_
          refine J_sub [2, 3, 1, 0] rfl ?_
          rw [m_it_1, m_it_2] at ih
          subst_vars
          exact ih
        refine J_if_eq X 53 (dt tX3_doPause 28 rfl) (by decide) (fun c4 => ?_) (fun c4 => ?_)
        · refine J_iconst X (nI 0) (dt tX3_doPause 31 rfl) (by decide) ?_
          exact kj6 _ (if_pos c4).symm
        · refine J_iconst X (nI 1) (dt tX3_doPause 29 rfl) (by decide) ?_
          refine J_goto X (tgt := 54) (dt tX3_doPause 30 rfl) (by decide) ?_
          exact kj6 _ (if_neg c4).symm
    · refine J_ldc X (dt tX3_doPause 16 rfl) q1981 ?_
      exact J_iret X rr (dt tX3_doPause 17 rfl) (Nat.zero_le _) (Nat.zero_le _) (pm_of (by unfold m_pause; exact (if_neg c1).trans (if_neg c2)))
  · refine J_ldc X (dt tX3_doPause 6 rfl) q1903 ?_
    exact J_iret X rr (dt tX3_doPause 7 rfl) (Nat.zero_le _) (Nat.zero_le _) (pm_of (by unfold m_pause; exact if_pos c1))
