/-! printed by gen/compw.py -/
set_option maxRecDepth 100000
theorem q528 : (Jvm.Cond.methodLink "LeadRaces$Track" (131 : Nat) ({ cls := "LeadRaces$Track", name := "runs", desc := "(I)Z" } : Jvm.MethodName)) ∈ lw_all := lw_g (lw_at lw_m2 220 rfl) rfl
theorem q530 : (Jvm.Cond.instanceMethod ({ cls := "LeadRaces$Track", name := "runs", desc := "(I)Z" } : Jvm.MethodName)) ∈ lw_all := lw_g (lw_at lw_m2 222 rfl) rfl
theorem q531 : (Jvm.Cond.code ({ cls := "LeadRaces$Track", name := "runs", desc := "(I)Z" } : Jvm.MethodName) prog_10_method_8_code (2 : Nat) (Option.some Jvm.ClassFile.FieldType.boolean)) ∈ lw_all := lw_g (lw_at lw_m2 223 rfl) rfl
theorem q583 : (Jvm.Cond.methodLink "LeadRaces$Track" (134 : Nat) ({ cls := "LeadRaces$Track", name := "leads", desc := "()V" } : Jvm.MethodName)) ∈ lw_all := lw_g (lw_at lw_m3 35 rfl) rfl
theorem q585 : (Jvm.Cond.instanceMethod ({ cls := "LeadRaces$Track", name := "leads", desc := "()V" } : Jvm.MethodName)) ∈ lw_all := lw_g (lw_at lw_m3 37 rfl) rfl
theorem q586 : (Jvm.Cond.code ({ cls := "LeadRaces$Track", name := "leads", desc := "()V" } : Jvm.MethodName) prog_10_method_9_code (4 : Nat) (Option.none : Option Jvm.ClassFile.FieldType)) ∈ lw_all := lw_g (lw_at lw_m3 38 rfl) rfl
theorem TK.ct {b h : PH} {t : Nat} {T rc : Nat → Nat} {ru : Nat → Option Nat} {S : Nat → Prop} {a : Nat → Int32} (H : TK b h t T rc ru S a) : h t = some (eo 1 [.ref (T 0), .ref (T 1), .ref (T 3), .int (a 0), .int (a 85)]) := by
  obtain ⟨wn, ot, un, h1, h2, h3⟩ := H
  exact h1.ct
theorem TK.ln {b h : PH} {t : Nat} {T rc : Nat → Nat} {ru : Nat → Option Nat} {S : Nat → Prop} {a : Nat → Int32} (H : TK b h t T rc ru S a) : h (T 0) = some (eR 8 ru) := by
  obtain ⟨wn, ot, un, h1, h2, h3⟩ := H
  exact h1.ln
abbrev cX1_runsFrom : ByteArray := prog_10_method_10_code
def yX1_runsFrom : MethodName := ⟨RX1, "runsFrom", "(I)V"⟩
theorem tX1_runsFrom : dtab cX1_runsFrom [(0, .aload_n 0, 1, 1), (1, .iload_n 1, 1, 2), (2, .iconst 2, 1, 3), (3, .idiv, 1, 4), (4, .invokevirtual 131, 3, 7), (7, .pop, 1, 8), (8, .aload_n 0, 1, 9), (9, .iconst 4, 1, 10), (10, .iload_n 1, 1, 11), (11, .iconst 4, 1, 12), (12, .idiv, 1, 13), (13, .iadd, 1, 14), (14, .invokevirtual 131, 3, 17), (17, .pop, 1, 18), (18, .aload_n 0, 1, 19), (19, .bipush 6, 2, 21), (21, .invokevirtual 131, 3, 24), (24, .pop, 1, 25), (25, .aload_n 0, 1, 26), (26, .invokevirtual 134, 3, 29), (29, .return_, 1, 30)] := by unfold dtab; decide +kernel
theorem okX1_runsFrom : okY yX1_runsFrom 1 := by decide +kernel
set_option maxHeartbeats 4000000 in
theorem c_Tfrom (l : Launch) (D : va_G) (h : PH) {b : PH} {t : Nat} {T rc : Nat → Nat} {ru : Nat → Option Nat} {σ : MS} {j : Nat}  (H : TK b h t T rc ru (fun i => i ≠ j / 2 ∧ i ≠ 4 + j / 4 ∧ i ≠ 6) (σ.1 0)) (hj : j < 8) : Ct l D yX1_runsFrom cX1_runsFrom 2 none (rmC 5 110 2 5) [.ref t, .int (nI j)] h (fun v h9 => v = none ∧ TK b h9 t T rc ru Al ((m_forT σ j).1 0)) := by
  refine Ct.of (by decide) rfl (fun Γ X rr hmn => ?_)
  have X : Cx l D cX1_runsFrom RX1 2 (rmC 5 110 2 5) Γ := X
  show J Γ h 0 0 0 [(0, .ref t), (1, .int (nI j))] []
  refine J_aload_n X (dt tX1_runsFrom 0 rfl) 0 rfl ?_
  refine J_iload_n X (dt tX1_runsFrom 1 rfl) 1 rfl ?_
  refine J_iconst X (nI 2) (dt tX1_runsFrom 2 rfl) (by decide) ?_
  refine J_idivN X (dt tX1_runsFrom 3 rfl) (by omega) (by omega) (by omega) ?_
  refine J_callVR (rest := []) X (T := TX1) (dt tX1_runsFrom 4 rfl) (c_Truns l D _ (σ := σ) (r := j / 2) H (by omega) (fun _ => ⟨by omega, by omega⟩)) (lw_V q528 q530 qs5 q70 q531) okX1_runs rfl (Or.inl H.ct) rfl ⟨Nat.le_of_ble_eq_true rfl, Nat.le_of_ble_eq_true rfl⟩ rfl (Nat.le_of_ble_eq_true rfl) (Nat.le_of_ble_eq_true rfl) (Nat.le_of_ble_eq_true rfl) (fun v9 g1 hp9 => ?_)
  obtain ⟨x2, rfl, bx2, -, H3⟩ := hp9
  show J Γ g1 0 0 7 [(0, .ref t), (1, .int (nI j))] [.int x2]
  refine J_pop X (dt tX1_runsFrom 5 rfl) rfl ?_
  refine J_aload_n X (dt tX1_runsFrom 6 rfl) 0 rfl ?_
  refine J_iconst X (nI 4) (dt tX1_runsFrom 7 rfl) (by decide) ?_
  refine J_iload_n X (dt tX1_runsFrom 8 rfl) 1 rfl ?_
  refine J_iconst X (nI 4) (dt tX1_runsFrom 9 rfl) (by decide) ?_
  refine J_idivN X (dt tX1_runsFrom 10 rfl) (by omega) (by omega) (by omega) ?_
  refine J_iaddN X (dt tX1_runsFrom 11 rfl) ?_
  refine J_callVR (rest := []) X (T := TX1) (dt tX1_runsFrom 12 rfl) (c_Truns l D _ (σ := (m_runsT σ (j / 2))) (r := 4 + (j / 4)) H3 (by omega) (fun _ => ⟨by omega, by omega⟩)) (lw_V q528 q530 qs5 q70 q531) okX1_runs rfl (Or.inl H3.ct) rfl ⟨Nat.le_of_ble_eq_true rfl, Nat.le_of_ble_eq_true rfl⟩ rfl (Nat.le_of_ble_eq_true rfl) (Nat.le_of_ble_eq_true rfl) (Nat.le_of_ble_eq_true rfl) (fun v9 g4 hp9 => ?_)
  obtain ⟨x5, rfl, bx5, -, H6⟩ := hp9
  show J Γ g4 0 0 17 [(0, .ref t), (1, .int (nI j))] [.int x5]
  refine J_pop X (dt tX1_runsFrom 13 rfl) rfl ?_
  refine J_aload_n X (dt tX1_runsFrom 14 rfl) 0 rfl ?_
  refine J_bipush X (nI 6) (dt tX1_runsFrom 15 rfl) (by decide) ?_
  refine J_callVR (rest := []) X (T := TX1) (dt tX1_runsFrom 16 rfl) (c_Truns l D _ (σ := (m_runsT (m_runsT σ (j / 2)) (4 + (j / 4)))) (r := 6) H6 (by omega) (fun _ => ⟨by omega, by omega⟩)) (lw_V q528 q530 qs5 q70 q531) okX1_runs rfl (Or.inl H6.ct) rfl ⟨Nat.le_of_ble_eq_true rfl, Nat.le_of_ble_eq_true rfl⟩ rfl (Nat.le_of_ble_eq_true rfl) (Nat.le_of_ble_eq_true rfl) (Nat.le_of_ble_eq_true rfl) (fun v9 g7 hp9 => ?_)
  obtain ⟨x8, rfl, bx8, -, H9⟩ := hp9
  show J Γ g7 0 0 24 [(0, .ref t), (1, .int (nI j))] [.int x8]
  refine J_pop X (dt tX1_runsFrom 17 rfl) rfl ?_
  refine J_aload_n X (dt tX1_runsFrom 18 rfl) 0 rfl ?_
  refine J_callVR (rest := []) X (T := TX1) (dt tX1_runsFrom 19 rfl) (c_Tleads l D _ (σ := (m_runsT (m_runsT (m_runsT σ (j / 2)) (4 + (j / 4))) 6)) H9 (by omega)) (lw_V q583 q585 qs7 q70 q586) okX1_leads rfl (Or.inl H9.ct) rfl ⟨Nat.le_of_ble_eq_true rfl, Nat.le_of_ble_eq_true rfl⟩ rfl (Nat.le_of_ble_eq_true rfl) (Nat.le_of_ble_eq_true rfl) (Nat.le_of_ble_eq_true rfl) (fun v9 g10 hp9 => ?_)
  obtain ⟨rfl, H11⟩ := hp9
  show J Γ g10 2 5 29 [(0, .ref t), (1, .int (nI j))] []
  exact J_vret X rr (dt tX1_runsFrom 20 rfl) (Nat.le_of_ble_eq_true rfl) (Nat.le_of_ble_eq_true rfl) ⟨rfl, H11.mono (fun i hi _ => by omega)⟩
