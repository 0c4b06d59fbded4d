/-! printed by gen/compw.py -/
set_option maxRecDepth 100000
theorem q384 : (Jvm.Cond.classLink "LeadRaces$Track" (88 : Nat) "java/lang/ArrayIndexOutOfBoundsException") ∈ lw_all := lw_g (lw_at lw_m2 76 rfl) rfl
theorem q460 : (Jvm.Cond.classLink "LeadRaces$Track" (90 : Nat) "LeadRaces$Refusal") ∈ lw_all := lw_g (lw_at lw_m2 152 rfl) rfl
theorem q469 : (Jvm.Cond.constant "LeadRaces$Track" (92 : Nat) (-10000001 : Int32)) ∈ lw_all := lw_g (lw_at lw_m2 161 rfl) rfl
theorem q470 : (Jvm.Cond.methodLink "LeadRaces$Track" (93 : Nat) ({ cls := "LeadRaces$Refusal", name := "<init>", desc := "(ILjava/lang/RuntimeException;)V" } : Jvm.MethodName)) ∈ lw_all := lw_g (lw_at lw_m2 162 rfl) rfl
abbrev cX1_in : ByteArray := prog_10_method_5_code
def yX1_in : MethodName := ⟨RX1, "in", "(I)LLeadRaces$Runner;"⟩
theorem tX1_in : dtab cX1_in [(0, .aload_n 0, 1, 1), (1, .getfield 11, 3, 4), (4, .iload_n 1, 1, 5), (5, .aaload, 1, 6), (6, .areturn, 1, 7), (7, .astore_n 2, 1, 8), (8, .new 90, 3, 11), (11, .dup, 1, 12), (12, .ldc 92, 2, 14), (14, .aload_n 2, 1, 15), (15, .invokespecial 93, 3, 18), (18, .athrow, 1, 19)] := by unfold dtab; decide +kernel
theorem okX1_in : okY yX1_in 1 := by decide +kernel
set_option maxHeartbeats 4000000 in
theorem c_TinY (l : Launch) (D : va_G) (h : PH) {t a0 a1 a3 : Nat} {x0 x1 : Int32} {ru : Nat → Option Nat} {j : Nat} (ct : h t = some (eo 1 [.ref a0, .ref a1, .ref a3, .int x0, .int x1])) (cl : h a0 = some (eR 8 ru)) (hj : j < 8) : Cq l D yX1_in (wsW yX1_in cX1_in 3 (some (.object "LeadRaces$Runner")) [(0, 6, 7, 88)]) (rmC 8 10240 4 240) [.ref t, .int (nI j)] h (PS h (some (va_rf (ru j)))) (NoX) := by
  refine Cq.ofW (by decide) rfl (fun Γ X rr hmn htb hrx => ?_)
  have X : Cx l D cX1_in RX1 3 (rmC 8 10240 4 240) Γ := X
  show J Γ h 0 0 0 [(0, .ref t), (1, .int (nI j))] []
  refine J_aload_n X (dt tX1_in 0 rfl) 0 rfl ?_
  refine g_X1_11_1 X (dt tX1_in 1 rfl) ct rfl ?_
  refine J_iload_n X (dt tX1_in 2 rfl) 1 rfl ?_
  refine J_rald X (dt tX1_in 3 rfl) cl (by omega) (by decide) ?_
  exact J_aret X rr (dt tX1_in 4 rfl) (Nat.le_of_ble_eq_true rfl) (Nat.le_of_ble_eq_true rfl) (Or.inl ⟨_, rfl⟩) (isr_q _) ⟨rfl, rfl⟩
set_option maxHeartbeats 4000000 in
theorem c_TinN (l : Launch) (D : va_G) (h : PH) {t a0 a1 a3 : Nat} {x0 x1 : Int32} {ru : Nat → Option Nat} {x : Int32} (ct : h t = some (eo 1 [.ref a0, .ref a1, .ref a3, .int x0, .int x1])) (cl : h a0 = some (eR 8 ru)) (hl9 : l.stackTraces = false) (hx : x < 0 ∨ 8 ≤ x.toNatClampNeg) : Cq l D yX1_in (wsW yX1_in cX1_in 3 (some (.object "LeadRaces$Runner")) [(0, 6, 7, 88)]) (rmC 8 10240 4 240) [.ref t, .int x] h (NoR) (RfX D h (-10000001)) := by
  refine Cq.ofW (by decide) rfl (fun Γ X rr hmn htb hrx => ?_)
  have X : Cx l D cX1_in RX1 3 (rmC 8 10240 4 240) Γ := X
  show J Γ h 0 0 0 [(0, .ref t), (1, .int x)] []
  refine J_aload_n X (dt tX1_in 0 rfl) 0 rfl ?_
  refine g_X1_11_1 X (dt tX1_in 1 rfl) ct rfl ?_
  refine J_iload_n X (dt tX1_in 2 rfl) 1 rfl ?_
  refine J_raldOut X hl9 (dt tX1_in 3 rfl) cl (by decide) hx (by decide) (by decide) (by decide) (by decide) (fun q9 => ?_)
  refine JX_catch X (sp := 0) (ep := 6) (hp := 7) (ct := 88) htb (by decide) (by decide) q384 q436 ?_
  show J Γ h 3 222 7 [(0, .ref t), (1, .int x)] [.ref q9]
  refine J_astore_n X (lv2 := [(2, .ref q9), (0, .ref t), (1, .int x)]) (dt tX1_in 5 rfl) rfl rfl rfl ?_
  refine J_newM X (fs := [.null, .null, .null, .null, .null, .int (nI 0), .int (nI 0)]) (tf := tyX4) (dt tX1_in 6 rfl) (show vwCl[9]? = some (RX4, TX4, 7) from rfl) in_X4 tyX4_ok q460 q461 q92 (by decide) (Nat.le_of_ble_eq_true rfl) (Nat.le_of_ble_eq_true rfl) (fun q1 fq1 => ?_)
  refine JM_dup X (dt tX1_in 7 rfl) rfl ?_
  refine JM_ldc X (dt tX1_in 8 rfl) q469 ?_
  refine JM_aload_n X (dt tX1_in 9 rfl) 0 rfl ?_
  refine JM_callI (rest := [.ref q1]) X (dt tX1_in 10 rfl) (pu_s _ _ _) (c_Ref2 l D _ (cz := some q9) (co := -10000001) hl9 (pu_s _ _ _)) (lw_meth q472) q92 q470 q471 rfl okX4_init rfl ⟨Nat.le_of_ble_eq_true rfl, Nat.le_of_ble_eq_true rfl⟩ rfl (Nat.le_of_ble_eq_true rfl) (Nat.le_of_ble_eq_true rfl) (Nat.le_of_ble_eq_true rfl) (fun v9 h9 hp9 => ?_)
  obtain ⟨r2, r3, rfl, rfl⟩ := hp9
  refine JM_athrow X (dt tX1_in 11 rfl) (pu_s _ _ _) (show vwCl[9]? = some (RX4, TX4, 7) from rfl) ?_
  exact JX_out X hrx htb (by decide) (Nat.le_of_ble_eq_true rfl) (Nat.le_of_ble_eq_true rfl) ⟨rfl, fq1, some q9, r2, r3, pu_pu _ _ _ _⟩
