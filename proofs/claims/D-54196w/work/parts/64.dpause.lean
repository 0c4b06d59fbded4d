/-! printed by gen/compw.py -/
set_option maxRecDepth 100000
theorem q1183 : (Jvm.Cond.methodLink "LeadRaces$Track" (184 : Nat) ({ cls := "LeadRaces$Track", name := "passes", desc := "([Z)V" } : Jvm.MethodName)) ∈ lw_all := lw_g (lw_at lw_m5 155 rfl) rfl
theorem q1185 : (Jvm.Cond.instanceMethod ({ cls := "LeadRaces$Track", name := "passes", desc := "([Z)V" } : Jvm.MethodName)) ∈ lw_all := lw_g (lw_at lw_m5 157 rfl) rfl
theorem q1186 : (Jvm.Cond.code ({ cls := "LeadRaces$Track", name := "passes", desc := "([Z)V" } : Jvm.MethodName) prog_10_method_18_code (3 : Nat) (Option.none : Option Jvm.ClassFile.FieldType)) ∈ lw_all := lw_g (lw_at lw_m5 158 rfl) rfl
theorem q1191 : (Jvm.Cond.arrayClass Jvm.ClassFile.FieldType.boolean) ∈ lw_all := lw_g (lw_at lw_m5 163 rfl) rfl
abbrev cX1_passes : ByteArray := prog_10_method_19_code
def yX1_passes : MethodName := ⟨RX1, "passes", "(I)I"⟩
theorem tX1_passes : dtab cX1_passes [(0, .iload_n 1, 1, 1), (1, .iconst 1, 1, 2), (2, .sipush 500, 3, 5), (5, .invokestatic 141, 3, 8), (8, .ldc 92, 2, 10), (10, .invokestatic 145, 3, 13), (13, .aload_n 0, 1, 14), (14, .getfield 82, 3, 17), (17, .iload_n 1, 1, 18), (18, .iadd, 1, 19), (19, .sipush 9000, 3, 22), (22, .if_icmp .gt 7, 3, 25), (25, .iconst 1, 1, 26), (26, .goto 4, 3, 29), (29, .iconst 0, 1, 30), (30, .ldc 172, 2, 32), (32, .invokestatic 145, 3, 35), (35, .aload_n 0, 1, 36), (36, .getfield 85, 3, 39), (39, .istore_n 2, 1, 40), (40, .bipush 7, 2, 42), (42, .newarray .boolean, 2, 44), (44, .astore_n 3, 1, 45), (45, .iconst 0, 1, 46), (46, .istore 4, 2, 48), (48, .iload 4, 2, 50), (50, .iload_n 1, 1, 51), (51, .if_icmp .ge 14, 3, 54), (54, .aload_n 0, 1, 55), (55, .aload_n 3, 1, 56), (56, .invokevirtual 184, 3, 59), (59, .iinc 4 1, 3, 62), (62, .goto (-14), 3, 65), (65, .aload_n 0, 1, 66), (66, .getfield 85, 3, 69), (69, .iload_n 2, 1, 70), (70, .isub, 1, 71), (71, .ireturn, 1, 72)] := by unfold dtab; decide +kernel
theorem okX1_passes : okY yX1_passes 1 := by decide +kernel
set_option maxHeartbeats 4000000 in
theorem c_Tpauses (l : Launch) (D : va_G) (h : PH) {b : PH} {t : Nat} {σ : MS} {x : Int32}  (hl9 : l.stackTraces = false) (HQ : TQ b h t (σ.1 0)) : Cq l D yX1_passes (ws_ yX1_passes cX1_passes 5 (some .int)) (rmC 8 158 1001 2507) [.ref t, .int x] h (fun v h9 => v = some (.int (m_pause σ x).1) ∧ -10000001 < (m_pause σ x).1 ∧ TQ b h9 t ((m_pause σ x).2.1 0)) (Rfd b (m_pause σ x).1) := by
  refine Cq.of (by decide) rfl (fun Γ X rr hmn htb hrx => ?_)
  have X : Cx l D cX1_passes RX1 5 (rmC 8 158 1001 2507) Γ := X
  show J Γ h 0 0 0 [(0, .ref t), (1, .int x)] []
  obtain ⟨T, rc, ru, H⟩ := HQ
  have hW : WF σ := H.wf
  by_cases c1 : k_inR x (nI 1) (nI 500) = 0
  · refine J_iload_n X (dt tX1_passes 0 rfl) 1 rfl ?_
    refine J_iconst X (nI 1) (dt tX1_passes 1 rfl) (by decide) ?_
    refine J_sipush X (nI 500) (dt tX1_passes 2 rfl) (by decide) ?_
    refine J_callSN (rest := []) X (dt tX1_passes 3 rfl) (c_inR l D _ x (nI 1) (nI 500)) (lw_meth q489) q69 q487 q488 okX0_inRange rfl ⟨Nat.le_of_ble_eq_true rfl, Nat.le_of_ble_eq_true rfl⟩ rfl (Nat.le_of_ble_eq_true rfl) (Nat.le_of_ble_eq_true rfl) (Nat.le_of_ble_eq_true rfl) (fun v9 h9 hp9 => ?_)
    obtain ⟨rfl, e9⟩ := hp9
    rw [e9]
    show J Γ h 0 0 8 [(0, .ref t), (1, .int x)] [.int (k_inR x (nI 1) (nI 500))]
    refine J_ldc X (dt tX1_passes 4 rfl) q469 ?_
    refine J_callSNX (rest := []) X (dt tX1_passes 5 rfl) (c_wantF l D _ (x := k_inR x (nI 1) (nI 500)) (c := (-10000001)) hl9 c1) (lw_meth q492) q69 q490 q491 okX0_want rfl ⟨Nat.le_of_ble_eq_true rfl, Nat.le_of_ble_eq_true rfl⟩ rfl (Nat.le_of_ble_eq_true rfl) (Nat.le_of_ble_eq_true rfl) (Nat.le_of_ble_eq_true rfl) (fun _ _ z => z.elim) (fun E9 q9 h9 hx9 => ?_)
    exact JX_out X hrx htb (fun x hx => nomatch hx) (Nat.le_of_ble_eq_true rfl) (Nat.le_of_ble_eq_true rfl) (by rw [show (m_pause σ x).1 = (-10000001) from pause_1 c1]; exact RfX.d hx9 H.ext (by decide))
  · obtain ⟨m, hm1, hm5, rfl⟩ := pause_n c1
    show J Γ h 0 0 0 [(0, .ref t), (1, .int (nI m))] []
    by_cases c2 : σ.1 0 0 + nI m ≤ nI 9000
    · have hm := pause_3 (σ := σ) (by omega) c1 c2
      refine J_iload_n X (dt tX1_passes 0 rfl) 1 rfl ?_
      refine J_iconst X (nI 1) (dt tX1_passes 1 rfl) (by decide) ?_
      refine J_sipush X (nI 500) (dt tX1_passes 2 rfl) (by decide) ?_
      refine J_callSN (rest := []) X (dt tX1_passes 3 rfl) (c_inR l D _ (nI m) (nI 1) (nI 500)) (lw_meth q489) q69 q487 q488 okX0_inRange rfl ⟨Nat.le_of_ble_eq_true rfl, Nat.le_of_ble_eq_true rfl⟩ rfl (Nat.le_of_ble_eq_true rfl) (Nat.le_of_ble_eq_true rfl) (Nat.le_of_ble_eq_true rfl) (fun v9 h9 hp9 => ?_)
      obtain ⟨rfl, e9⟩ := hp9
      rw [e9]
      show J Γ h 0 0 8 [(0, .ref t), (1, .int (nI m))] [.int (k_inR (nI m) (nI 1) (nI 500))]
      refine J_ldc X (dt tX1_passes 4 rfl) q469 ?_
      refine J_callSN (rest := []) X (dt tX1_passes 5 rfl) (c_wantT l D _ (x := k_inR (nI m) (nI 1) (nI 500)) (c := (-10000001)) c1) (lw_meth q492) q69 q490 q491 okX0_want rfl ⟨Nat.le_of_ble_eq_true rfl, Nat.le_of_ble_eq_true rfl⟩ rfl (Nat.le_of_ble_eq_true rfl) (Nat.le_of_ble_eq_true rfl) (Nat.le_of_ble_eq_true rfl) (fun v9 h9 hp9 => ?_)
      obtain ⟨rfl, e9⟩ := hp9
      rw [e9]
      show J Γ h 0 0 13 [(0, .ref t), (1, .int (nI m))] []
      refine J_aload_n X (dt tX1_passes 6 rfl) 0 rfl ?_
      refine g_X1_82_1 X (dt tX1_passes 7 rfl) H.ct rfl ?_
      refine J_iload_n X (dt tX1_passes 8 rfl) 1 rfl ?_
      refine J_iadd X (dt tX1_passes 9 rfl) ?_
      refine J_sipush X (nI 9000) (dt tX1_passes 10 rfl) (by decide) ?_
      refine J_icmp_gt X 29 (dt tX1_passes 11 rfl) (by decide) (fun c9 => absurd c9 (Int32.not_lt.mpr c2)) (fun _ => ?_)
      refine J_iconst X (nI 1) (dt tX1_passes 12 rfl) (by decide) ?_
      refine J_goto X (tgt := 30) (dt tX1_passes 13 rfl) (by decide) ?_
      refine J_ldc X (dt tX1_passes 15 rfl) q1172 ?_
      refine J_callSN (rest := []) X (dt tX1_passes 16 rfl) (c_wantT l D _ (x := nI 1) (c := (-10000003)) (by decide)) (lw_meth q492) q69 q490 q491 okX0_want rfl ⟨Nat.le_of_ble_eq_true rfl, Nat.le_of_ble_eq_true rfl⟩ rfl (Nat.le_of_ble_eq_true rfl) (Nat.le_of_ble_eq_true rfl) (Nat.le_of_ble_eq_true rfl) (fun v9 h9 hp9 => ?_)
      obtain ⟨rfl, e9⟩ := hp9
      rw [e9]
      show J Γ h 0 0 35 [(0, .ref t), (1, .int (nI m))] []
      refine J_aload_n X (dt tX1_passes 17 rfl) 0 rfl ?_
      refine g_X1_85_1 X (dt tX1_passes 18 rfl) H.ct rfl ?_
      refine J_istore_n X (lv2 := [(2, .int (σ.1 0 85)), (0, .ref t), (1, .int (nI m))]) (dt tX1_passes 19 rfl) rfl rfl rfl ?_
      refine J_bipush X (nI 7) (dt tX1_passes 20 rfl) (by decide) ?_
      refine J_newZ X (N := 7) (dt tX1_passes 21 rfl) q1191 (by decide) (Nat.le_of_ble_eq_true rfl) (Nat.le_of_ble_eq_true rfl) (fun q1 fq1 => ?_)
      refine J_astore_n X (lv2 := [(3, .ref q1), (2, .int (σ.1 0 85)), (0, .ref t), (1, .int (nI m))]) (dt tX1_passes 22 rfl) rfl rfl rfl ?_
      refine J_iconst X (nI 0) (dt tX1_passes 23 rfl) (by decide) ?_
      refine J_istore X (lv2 := [(4, .int (nI 0)), (3, .ref q1), (2, .int (σ.1 0 85)), (0, .ref t), (1, .int (nI m))]) (dt tX1_passes 24 rfl) rfl rfl ?_
      have bo : b q1 = none := H.ext.no fq1
      refine J_sub [3, 4, 2, 1, 0] rfl ?_
      refine up_to m (P := fun i3 => ∀ g2 : PH, ∀ gz : Nat → Int32, (TK b g2 t T rc ru Al ((m_it σ i3).2.1 0)) → (g2 q1 = some (eZ 7 gz)) → J Γ g2 (1 + 2 * i3) (7 + 5 * i3) 48 [(0, .ref t), (1, .int (nI m)), (2, .int (σ.1 0 85)), (3, .ref q1), (4, .int (nI i3))] []) ?_ ?_ (pu h q1 (eZ 7 (fun _ => 0))) (fun _ => 0) (by rw [m_it]; exact H.new (Ext.new fq1)) (pu_s _ _ _)
      · intro g2 gz k1 k2
        show J Γ g2 (1 + 2 * m) (7 + 5 * m) 48 [(0, .ref t), (1, .int (nI m)), (2, .int (σ.1 0 85)), (3, .ref q1), (4, .int (nI m))] []
        refine J_widen (k2 := 1001) (n2 := 2507) (by omega) (by omega) ?_
        refine J_iload X (dt tX1_passes 25 rfl) 4 rfl ?_
        refine J_iload_n X (dt tX1_passes 26 rfl) 1 rfl ?_
        refine J_icmp_ge X 65 (dt tX1_passes 27 rfl) (by decide) (fun _ => ?_) (fun c9 => absurd (Int32.le_refl _) c9)
        refine J_aload_n X (dt tX1_passes 33 rfl) 0 rfl ?_
        refine g_X1_85_1 X (dt tX1_passes 34 rfl) k1.ct rfl ?_
        refine J_iload_n X (dt tX1_passes 35 rfl) 2 rfl ?_
        refine J_isub X (dt tX1_passes 36 rfl) ?_
        exact J_iret X rr (dt tX1_passes 37 rfl) (Nat.le_of_ble_eq_true rfl) (Nat.le_of_ble_eq_true rfl) (by rw [hm]; obtain ⟨k9, hk9, ek9⟩ := m_it_nat σ m; exact ⟨congrArg (fun z => some (Value.int z)) (by rw [(m_it_at hW m).2, sub_self2]), (by rw [ek9]; exact gt_nI (by omega)), T, rc, ru, k1⟩)
      · intro i3 hi3 ih g2 gz k1 k2
        show J Γ g2 (1 + 2 * i3) (7 + 5 * i3) 48 [(0, .ref t), (1, .int (nI m)), (2, .int (σ.1 0 85)), (3, .ref q1), (4, .int (nI i3))] []
        refine J_iload X (dt tX1_passes 25 rfl) 4 rfl ?_
        refine J_iload_n X (dt tX1_passes 26 rfl) 1 rfl ?_
        refine J_icmp_ge X 65 (dt tX1_passes 27 rfl) (by decide) (fun c9 => absurd c9 (nI_ge hi3 (by omega))) (fun _ => ?_)
        refine J_aload_n X (dt tX1_passes 28 rfl) 0 rfl ?_
        refine J_aload_n X (dt tX1_passes 29 rfl) 3 rfl ?_
        refine J_callVR (rest := []) X (T := TX1) (dt tX1_passes 30 rfl) (c_Tpass l D _ (σ := (m_it σ i3).2) k1 (pause_t H.bd hW hm5 c2 hi3) k2 bo) (lw_V q1183 q1185 qs20 q70 q1186) okX1_passes_2 rfl (Or.inl k1.ct) rfl ⟨Nat.le_of_ble_eq_true rfl, Nat.le_of_ble_eq_true rfl⟩ rfl (Nat.le_of_ble_eq_true rfl) (by show 1 + 2 * i3 + 2 ≤ 1001; omega) (by show 7 + 5 * i3 + 5 ≤ 2507; omega) (fun v9 g4 hp9 => ?_)
        obtain ⟨rfl, ⟨g9, k2⟩, H9⟩ := hp9
        show J Γ g4 (1 + 2 * i3 + 2) (7 + 5 * i3 + 5) 59 [(0, .ref t), (1, .int (nI m)), (2, .int (σ.1 0 85)), (3, .ref q1), (4, .int (nI i3))] []
        refine J_iinc X (lv2 := [(4, .int (nI (i3 + 1))), (0, .ref t), (1, .int (nI m)), (2, .int (σ.1 0 85)), (3, .ref q1)]) (dt tX1_passes 31 rfl) 4 (nI (i3 + 1)) rfl (nI_add i3 1) rfl rfl ?_
        refine J_goto X (tgt := 48) (dt tX1_passes 32 rfl) (by decide) ?_
        refine J_sub [1, 2, 3, 4, 0] rfl ?_
        refine J_widen (k2 := 1 + 2 * (i3 + 1)) (n2 := 7 + 5 * (i3 + 1)) (by omega) (by omega) ?_
        exact ih _ _ (by rw [m_it_2]; exact H9) k2
    · refine J_iload_n X (dt tX1_passes 0 rfl) 1 rfl ?_
      refine J_iconst X (nI 1) (dt tX1_passes 1 rfl) (by decide) ?_
      refine J_sipush X (nI 500) (dt tX1_passes 2 rfl) (by decide) ?_
      refine J_callSN (rest := []) X (dt tX1_passes 3 rfl) (c_inR l D _ (nI m) (nI 1) (nI 500)) (lw_meth q489) q69 q487 q488 okX0_inRange rfl ⟨Nat.le_of_ble_eq_true rfl, Nat.le_of_ble_eq_true rfl⟩ rfl (Nat.le_of_ble_eq_true rfl) (Nat.le_of_ble_eq_true rfl) (Nat.le_of_ble_eq_true rfl) (fun v9 h9 hp9 => ?_)
      obtain ⟨rfl, e9⟩ := hp9
      rw [e9]
      show J Γ h 0 0 8 [(0, .ref t), (1, .int (nI m))] [.int (k_inR (nI m) (nI 1) (nI 500))]
      refine J_ldc X (dt tX1_passes 4 rfl) q469 ?_
      refine J_callSN (rest := []) X (dt tX1_passes 5 rfl) (c_wantT l D _ (x := k_inR (nI m) (nI 1) (nI 500)) (c := (-10000001)) c1) (lw_meth q492) q69 q490 q491 okX0_want rfl ⟨Nat.le_of_ble_eq_true rfl, Nat.le_of_ble_eq_true rfl⟩ rfl (Nat.le_of_ble_eq_true rfl) (Nat.le_of_ble_eq_true rfl) (Nat.le_of_ble_eq_true rfl) (fun v9 h9 hp9 => ?_)
      obtain ⟨rfl, e9⟩ := hp9
      rw [e9]
      show J Γ h 0 0 13 [(0, .ref t), (1, .int (nI m))] []
      refine J_aload_n X (dt tX1_passes 6 rfl) 0 rfl ?_
      refine g_X1_82_1 X (dt tX1_passes 7 rfl) H.ct rfl ?_
      refine J_iload_n X (dt tX1_passes 8 rfl) 1 rfl ?_
      refine J_iadd X (dt tX1_passes 9 rfl) ?_
      refine J_sipush X (nI 9000) (dt tX1_passes 10 rfl) (by decide) ?_
      refine J_icmp_gt X 29 (dt tX1_passes 11 rfl) (by decide) (fun _ => ?_) (fun c9 => absurd (Int32.not_le.mp c2) c9)
      refine J_iconst X (nI 0) (dt tX1_passes 14 rfl) (by decide) ?_
      refine J_ldc X (dt tX1_passes 15 rfl) q1172 ?_
      refine J_callSNX (rest := []) X (dt tX1_passes 16 rfl) (c_wantF l D _ (x := nI 0) (c := (-10000003)) hl9 rfl) (lw_meth q492) q69 q490 q491 okX0_want rfl ⟨Nat.le_of_ble_eq_true rfl, Nat.le_of_ble_eq_true rfl⟩ rfl (Nat.le_of_ble_eq_true rfl) (Nat.le_of_ble_eq_true rfl) (Nat.le_of_ble_eq_true rfl) (fun _ _ z => z.elim) (fun E9 q9 h9 hx9 => ?_)
      exact JX_out X hrx htb (fun x hx => nomatch hx) (Nat.le_of_ble_eq_true rfl) (Nat.le_of_ble_eq_true rfl) (by rw [show (m_pause σ (nI m)).1 = (-10000003) from pause_2 c1 c2]; exact RfX.d hx9 H.ext (by decide))
