/-! printed by gen/modelm.py -/
set_option maxRecDepth 100000
theorem q118 : (Jvm.Cond.instanceMethod ({ cls := "java/lang/Object", name := "<init>", desc := "()V" } : Jvm.MethodName)) ∈ lw_all := lw_g (lw_at lw_m1 50 rfl) rfl
theorem q119 : (Jvm.Cond.code ({ cls := "java/lang/Object", name := "<init>", desc := "()V" } : Jvm.MethodName) object_method_1_code (1 : Nat) (Option.none : Option Jvm.ClassFile.FieldType)) ∈ lw_all := lw_g (lw_at lw_m1 51 rfl) rfl
theorem q1829 : (Jvm.Cond.methodLink "LeadRacesModel" (1 : Nat) ({ cls := "java/lang/Object", name := "<init>", desc := "()V" } : Jvm.MethodName)) ∈ lw_all := lw_g (lw_at lw_m8 81 rfl) rfl
theorem q1876 : (Jvm.Cond.arrayClass Jvm.ClassFile.FieldType.int) ∈ lw_all := lw_g (lw_at lw_m8 128 rfl) rfl
/-! the reference's constructor -/
def m_ini (a : Nat → Int32) : Nat → Nat → Int32
  | 0 => a
  | i + 1 => upd (upd (upd (upd (m_ini a i) (33 + i) (-1)) (40 + i) (-1)) (47 + i) (-1)) (61 + i) (-1)
def m_z : MS := (fun _ _ => 0, fun _ => 0)
def m_s0 : MS := sA m_z 0 (m_ini (fun _ => 0) 7)
theorem pu_none {h : PH} {a q : Nat} {e : va_E} (hq : pu h a e q = none) : q ≠ a ∧ h q = none := by
  by_cases hqa : q = a
  · rw [hqa, pu_s] at hq; cases hq
  · rw [pu_n hqa] at hq; exact ⟨hqa, hq⟩
abbrev cX3_init : ByteArray := prog_12_method_1_code
def yX3_init : MethodName := ⟨RX3, "<init>", "()V"⟩
theorem tX3_init : dtab cX3_init [(0, .aload_n 0, 1, 1), (1, .invokespecial 1, 3, 4), (4, .aload_n 0, 1, 5), (5, .bipush 88, 2, 7), (7, .newarray .int, 2, 9), (9, .putfield 7, 3, 12), (12, .aload_n 0, 1, 13), (13, .bipush 88, 2, 15), (15, .newarray .int, 2, 17), (17, .putfield 13, 3, 20), (20, .aload_n 0, 1, 21), (21, .sipush 352, 3, 24), (24, .newarray .int, 2, 26), (26, .putfield 16, 3, 29), (29, .aload_n 0, 1, 30), (30, .bipush 7, 2, 32), (32, .newarray .int, 2, 34), (34, .putfield 19, 3, 37), (37, .aload_n 0, 1, 38), (38, .bipush 60, 2, 40), (40, .newarray .int, 2, 42), (42, .putfield 22, 3, 45), (45, .aload_n 0, 1, 46), (46, .iconst 3, 1, 47), (47, .newarray .int, 2, 49), (49, .putfield 25, 3, 52), (52, .iconst 0, 1, 53), (53, .istore_n 1, 1, 54), (54, .iload_n 1, 1, 55), (55, .bipush 7, 2, 57), (57, .if_icmp .ge 49, 3, 60), (60, .aload_n 0, 1, 61), (61, .getfield 7, 3, 64), (64, .bipush 33, 2, 66), (66, .iload_n 1, 1, 67), (67, .iadd, 1, 68), (68, .iconst (-1), 1, 69), (69, .iastore, 1, 70), (70, .aload_n 0, 1, 71), (71, .getfield 7, 3, 74), (74, .bipush 40, 2, 76), (76, .iload_n 1, 1, 77), (77, .iadd, 1, 78), (78, .iconst (-1), 1, 79), (79, .iastore, 1, 80), (80, .aload_n 0, 1, 81), (81, .getfield 7, 3, 84), (84, .bipush 47, 2, 86), (86, .iload_n 1, 1, 87), (87, .iadd, 1, 88), (88, .iconst (-1), 1, 89), (89, .iastore, 1, 90), (90, .aload_n 0, 1, 91), (91, .getfield 7, 3, 94), (94, .bipush 61, 2, 96), (96, .iload_n 1, 1, 97), (97, .iadd, 1, 98), (98, .iconst (-1), 1, 99), (99, .iastore, 1, 100), (100, .iinc 1 1, 3, 103), (103, .goto (-49), 3, 106), (106, .return_, 1, 107)] := by unfold dtab; decide +kernel
theorem okX3_init : okY yX3_init 0 := by decide +kernel
/-- the reference's object is made: six arrays, fresh -/
def PI (h : PH) (m : Nat) : Option Value → PH → Prop := fun v h' => v = none ∧ ∃ ar : Nat → Nat, md m ar ∧ (h (ar 0) = none ∧ h (ar 1) = none ∧ h (ar 2) = none ∧ h (ar 3) = none ∧ h (ar 4) = none ∧ h (ar 5) = none) ∧ h' = mh h m ar m_s0
set_option maxHeartbeats 4000000 in
theorem c_init (l : Launch) (D : va_G) (h : PH) (m : Nat) (hm : h m = some (eo 8 [.null, .null, .null, .int 0, .null, .int 0, .int 0, .null, .int 0, .int 0, .int 0, .null, .int 0, .int 0, .int 0])) : Ct l D yX3_init cX3_init 2 none { frames := 1, cells := 6, slots := 598, locals := 12 } [.ref m] h (PI h m) := by
  refine Ct.of (by decide) rfl (fun Γ X rr hmn => ?_)
  have X : Cx l D cX3_init RX3 2 { frames := 1, cells := 6, slots := 598, locals := 12 } Γ := X
  have hmn : Mn "<init>" Γ := hmn
  show J Γ h 0 0 0 [(0, .ref m)] []
  have hX0 : h m = some (eo 8 [.null, .null, .null, .int 0, .null, .int 0, .int 0, .null, .int 0, .int 0, .int 0, .null, .int 0, .int 0, .int 0]) := hm
  refine J_aload_n X (dt tX3_init 0 rfl) 0 rfl ?_
  refine J_objI X (dt tX3_init 1 rfl) q1829 q118 q119 (Nat.le_of_ble_eq_true rfl) (Nat.le_of_ble_eq_true rfl) ?_
  refine J_aload_n X (dt tX3_init 2 rfl) 0 rfl ?_
  refine J_bipush X (nI 88) (dt tX3_init 3 rfl) (by decide) ?_
  refine J_newI X (dt tX3_init 4 rfl) q1876 (Nat.le_of_ble_eq_true rfl) (Nat.le_of_ble_eq_true rfl) (Nat.le_of_ble_eq_true rfl) (fun q0 f0 => ?_)
  have g0 : pu h q0 (eI 88 (fun _ => 0)) m = some (eo 8 [.null, .null, .null, .int 0, .null, .int 0, .int 0, .null, .int 0, .int 0, .int 0, .null, .int 0, .int 0, .int 0]) := (pu_n (fun z => by rw [← z, hX0] at f0; cases f0)).trans hX0
  refine J_putF X hmn (kf := 0) (ty := .array .int) (fs2 := [.ref q0, .null, .null, .int 0, .null, .int 0, .int 0, .null, .int 0, .int 0, .int 0, .null, .int 0, .int 0, .int 0]) (dt tX3_init 5 rfl) g0 rfl in_X3 tyX3_ok nmX3 rfl q1830 rfl rfl rfl (by decide +kernel) rfl rfl rfl rfl ?_
  obtain ⟨h1, eh1⟩ : ∃ z, z = pu (pu h q0 (eI 88 (fun _ => 0))) m (eo 8 [.ref q0, .null, .null, .int 0, .null, .int 0, .int 0, .null, .int 0, .int 0, .int 0, .null, .int 0, .int 0, .int 0]) := ⟨_, rfl⟩
  rw [← eh1]
  have hX1 : h1 m = some (eo 8 [.ref q0, .null, .null, .int 0, .null, .int 0, .int 0, .null, .int 0, .int 0, .int 0, .null, .int 0, .int 0, .int 0]) := by rw [eh1]; exact pu_s _ _ _
  refine J_aload_n X (dt tX3_init 6 rfl) 0 rfl ?_
  refine J_bipush X (nI 88) (dt tX3_init 7 rfl) (by decide) ?_
  refine J_newI X (dt tX3_init 8 rfl) q1876 (Nat.le_of_ble_eq_true rfl) (Nat.le_of_ble_eq_true rfl) (Nat.le_of_ble_eq_true rfl) (fun q1 f1 => ?_)
  have g1 : pu h1 q1 (eI 88 (fun _ => 0)) m = some (eo 8 [.ref q0, .null, .null, .int 0, .null, .int 0, .int 0, .null, .int 0, .int 0, .int 0, .null, .int 0, .int 0, .int 0]) := (pu_n (fun z => by rw [← z, hX1] at f1; cases f1)).trans hX1
  refine J_putF X hmn (kf := 1) (ty := .array .int) (fs2 := [.ref q0, .ref q1, .null, .int 0, .null, .int 0, .int 0, .null, .int 0, .int 0, .int 0, .null, .int 0, .int 0, .int 0]) (dt tX3_init 9 rfl) g1 rfl in_X3 tyX3_ok nmX3 rfl q1831 rfl rfl rfl (by decide +kernel) rfl rfl rfl rfl ?_
  obtain ⟨h2, eh2⟩ : ∃ z, z = pu (pu h1 q1 (eI 88 (fun _ => 0))) m (eo 8 [.ref q0, .ref q1, .null, .int 0, .null, .int 0, .int 0, .null, .int 0, .int 0, .int 0, .null, .int 0, .int 0, .int 0]) := ⟨_, rfl⟩
  rw [← eh2]
  have hX2 : h2 m = some (eo 8 [.ref q0, .ref q1, .null, .int 0, .null, .int 0, .int 0, .null, .int 0, .int 0, .int 0, .null, .int 0, .int 0, .int 0]) := by rw [eh2]; exact pu_s _ _ _
  refine J_aload_n X (dt tX3_init 10 rfl) 0 rfl ?_
  refine J_sipush X (nI 352) (dt tX3_init 11 rfl) (by decide) ?_
  refine J_newI X (dt tX3_init 12 rfl) q1876 (Nat.le_of_ble_eq_true rfl) (Nat.le_of_ble_eq_true rfl) (Nat.le_of_ble_eq_true rfl) (fun q2 f2 => ?_)
  have g2 : pu h2 q2 (eI 352 (fun _ => 0)) m = some (eo 8 [.ref q0, .ref q1, .null, .int 0, .null, .int 0, .int 0, .null, .int 0, .int 0, .int 0, .null, .int 0, .int 0, .int 0]) := (pu_n (fun z => by rw [← z, hX2] at f2; cases f2)).trans hX2
  refine J_putF X hmn (kf := 2) (ty := .array .int) (fs2 := [.ref q0, .ref q1, .ref q2, .int 0, .null, .int 0, .int 0, .null, .int 0, .int 0, .int 0, .null, .int 0, .int 0, .int 0]) (dt tX3_init 13 rfl) g2 rfl in_X3 tyX3_ok nmX3 rfl q1832 rfl rfl rfl (by decide +kernel) rfl rfl rfl rfl ?_
  obtain ⟨h3, eh3⟩ : ∃ z, z = pu (pu h2 q2 (eI 352 (fun _ => 0))) m (eo 8 [.ref q0, .ref q1, .ref q2, .int 0, .null, .int 0, .int 0, .null, .int 0, .int 0, .int 0, .null, .int 0, .int 0, .int 0]) := ⟨_, rfl⟩
  rw [← eh3]
  have hX3 : h3 m = some (eo 8 [.ref q0, .ref q1, .ref q2, .int 0, .null, .int 0, .int 0, .null, .int 0, .int 0, .int 0, .null, .int 0, .int 0, .int 0]) := by rw [eh3]; exact pu_s _ _ _
  refine J_aload_n X (dt tX3_init 14 rfl) 0 rfl ?_
  refine J_bipush X (nI 7) (dt tX3_init 15 rfl) (by decide) ?_
  refine J_newI X (dt tX3_init 16 rfl) q1876 (Nat.le_of_ble_eq_true rfl) (Nat.le_of_ble_eq_true rfl) (Nat.le_of_ble_eq_true rfl) (fun q3 f3 => ?_)
  have g3 : pu h3 q3 (eI 7 (fun _ => 0)) m = some (eo 8 [.ref q0, .ref q1, .ref q2, .int 0, .null, .int 0, .int 0, .null, .int 0, .int 0, .int 0, .null, .int 0, .int 0, .int 0]) := (pu_n (fun z => by rw [← z, hX3] at f3; cases f3)).trans hX3
  refine J_putF X hmn (kf := 4) (ty := .array .int) (fs2 := [.ref q0, .ref q1, .ref q2, .int 0, .ref q3, .int 0, .int 0, .null, .int 0, .int 0, .int 0, .null, .int 0, .int 0, .int 0]) (dt tX3_init 17 rfl) g3 rfl in_X3 tyX3_ok nmX3 rfl q1834 rfl rfl rfl (by decide +kernel) rfl rfl rfl rfl ?_
  obtain ⟨h4, eh4⟩ : ∃ z, z = pu (pu h3 q3 (eI 7 (fun _ => 0))) m (eo 8 [.ref q0, .ref q1, .ref q2, .int 0, .ref q3, .int 0, .int 0, .null, .int 0, .int 0, .int 0, .null, .int 0, .int 0, .int 0]) := ⟨_, rfl⟩
  rw [← eh4]
  have hX4 : h4 m = some (eo 8 [.ref q0, .ref q1, .ref q2, .int 0, .ref q3, .int 0, .int 0, .null, .int 0, .int 0, .int 0, .null, .int 0, .int 0, .int 0]) := by rw [eh4]; exact pu_s _ _ _
  refine J_aload_n X (dt tX3_init 18 rfl) 0 rfl ?_
  refine J_bipush X (nI 60) (dt tX3_init 19 rfl) (by decide) ?_
  refine J_newI X (dt tX3_init 20 rfl) q1876 (Nat.le_of_ble_eq_true rfl) (Nat.le_of_ble_eq_true rfl) (Nat.le_of_ble_eq_true rfl) (fun q4 f4 => ?_)
  have g4 : pu h4 q4 (eI 60 (fun _ => 0)) m = some (eo 8 [.ref q0, .ref q1, .ref q2, .int 0, .ref q3, .int 0, .int 0, .null, .int 0, .int 0, .int 0, .null, .int 0, .int 0, .int 0]) := (pu_n (fun z => by rw [← z, hX4] at f4; cases f4)).trans hX4
  refine J_putF X hmn (kf := 7) (ty := .array .int) (fs2 := [.ref q0, .ref q1, .ref q2, .int 0, .ref q3, .int 0, .int 0, .ref q4, .int 0, .int 0, .int 0, .null, .int 0, .int 0, .int 0]) (dt tX3_init 21 rfl) g4 rfl in_X3 tyX3_ok nmX3 rfl q1837 rfl rfl rfl (by decide +kernel) rfl rfl rfl rfl ?_
  obtain ⟨h5, eh5⟩ : ∃ z, z = pu (pu h4 q4 (eI 60 (fun _ => 0))) m (eo 8 [.ref q0, .ref q1, .ref q2, .int 0, .ref q3, .int 0, .int 0, .ref q4, .int 0, .int 0, .int 0, .null, .int 0, .int 0, .int 0]) := ⟨_, rfl⟩
  rw [← eh5]
  have hX5 : h5 m = some (eo 8 [.ref q0, .ref q1, .ref q2, .int 0, .ref q3, .int 0, .int 0, .ref q4, .int 0, .int 0, .int 0, .null, .int 0, .int 0, .int 0]) := by rw [eh5]; exact pu_s _ _ _
  refine J_aload_n X (dt tX3_init 22 rfl) 0 rfl ?_
  refine J_iconst X (nI 3) (dt tX3_init 23 rfl) (by decide) ?_
  refine J_newI X (dt tX3_init 24 rfl) q1876 (Nat.le_of_ble_eq_true rfl) (Nat.le_of_ble_eq_true rfl) (Nat.le_of_ble_eq_true rfl) (fun q5 f5 => ?_)
  have g5 : pu h5 q5 (eI 3 (fun _ => 0)) m = some (eo 8 [.ref q0, .ref q1, .ref q2, .int 0, .ref q3, .int 0, .int 0, .ref q4, .int 0, .int 0, .int 0, .null, .int 0, .int 0, .int 0]) := (pu_n (fun z => by rw [← z, hX5] at f5; cases f5)).trans hX5
  refine J_putF X hmn (kf := 11) (ty := .array .int) (fs2 := [.ref q0, .ref q1, .ref q2, .int 0, .ref q3, .int 0, .int 0, .ref q4, .int 0, .int 0, .int 0, .ref q5, .int 0, .int 0, .int 0]) (dt tX3_init 25 rfl) g5 rfl in_X3 tyX3_ok nmX3 rfl q1841 rfl rfl rfl (by decide +kernel) rfl rfl rfl rfl ?_
  obtain ⟨h6, eh6⟩ : ∃ z, z = pu (pu h5 q5 (eI 3 (fun _ => 0))) m (eo 8 [.ref q0, .ref q1, .ref q2, .int 0, .ref q3, .int 0, .int 0, .ref q4, .int 0, .int 0, .int 0, .ref q5, .int 0, .int 0, .int 0]) := ⟨_, rfl⟩
  rw [← eh6]
  have hX6 : h6 m = some (eo 8 [.ref q0, .ref q1, .ref q2, .int 0, .ref q3, .int 0, .int 0, .ref q4, .int 0, .int 0, .int 0, .ref q5, .int 0, .int 0, .int 0]) := by rw [eh6]; exact pu_s _ _ _
  have n0_0 := f0
  have m0 : q0 ≠ m := fun z => by rw [z, hX0] at n0_0; cases n0_0
  rw [eh1] at f1
  obtain ⟨a1_1, b1_1⟩ := pu_none f1
  obtain ⟨d1_0, n1_0⟩ := pu_none b1_1
  have m1 : q1 ≠ m := fun z => by rw [z, hX0] at n1_0; cases n1_0
  rw [eh2] at f2
  obtain ⟨a2_2, b2_2⟩ := pu_none f2
  obtain ⟨d2_1, n2_1⟩ := pu_none b2_2
  rw [eh1] at n2_1
  obtain ⟨a2_1, b2_1⟩ := pu_none n2_1
  obtain ⟨d2_0, n2_0⟩ := pu_none b2_1
  have m2 : q2 ≠ m := fun z => by rw [z, hX0] at n2_0; cases n2_0
  rw [eh3] at f3
  obtain ⟨a3_3, b3_3⟩ := pu_none f3
  obtain ⟨d3_2, n3_2⟩ := pu_none b3_3
  rw [eh2] at n3_2
  obtain ⟨a3_2, b3_2⟩ := pu_none n3_2
  obtain ⟨d3_1, n3_1⟩ := pu_none b3_2
  rw [eh1] at n3_1
  obtain ⟨a3_1, b3_1⟩ := pu_none n3_1
  obtain ⟨d3_0, n3_0⟩ := pu_none b3_1
  have m3 : q3 ≠ m := fun z => by rw [z, hX0] at n3_0; cases n3_0
  rw [eh4] at f4
  obtain ⟨a4_4, b4_4⟩ := pu_none f4
  obtain ⟨d4_3, n4_3⟩ := pu_none b4_4
  rw [eh3] at n4_3
  obtain ⟨a4_3, b4_3⟩ := pu_none n4_3
  obtain ⟨d4_2, n4_2⟩ := pu_none b4_3
  rw [eh2] at n4_2
  obtain ⟨a4_2, b4_2⟩ := pu_none n4_2
  obtain ⟨d4_1, n4_1⟩ := pu_none b4_2
  rw [eh1] at n4_1
  obtain ⟨a4_1, b4_1⟩ := pu_none n4_1
  obtain ⟨d4_0, n4_0⟩ := pu_none b4_1
  have m4 : q4 ≠ m := fun z => by rw [z, hX0] at n4_0; cases n4_0
  rw [eh5] at f5
  obtain ⟨a5_5, b5_5⟩ := pu_none f5
  obtain ⟨d5_4, n5_4⟩ := pu_none b5_5
  rw [eh4] at n5_4
  obtain ⟨a5_4, b5_4⟩ := pu_none n5_4
  obtain ⟨d5_3, n5_3⟩ := pu_none b5_4
  rw [eh3] at n5_3
  obtain ⟨a5_3, b5_3⟩ := pu_none n5_3
  obtain ⟨d5_2, n5_2⟩ := pu_none b5_3
  rw [eh2] at n5_2
  obtain ⟨a5_2, b5_2⟩ := pu_none n5_2
  obtain ⟨d5_1, n5_1⟩ := pu_none b5_2
  rw [eh1] at n5_1
  obtain ⟨a5_1, b5_1⟩ := pu_none n5_1
  obtain ⟨d5_0, n5_0⟩ := pu_none b5_1
  have m5 : q5 ≠ m := fun z => by rw [z, hX0] at n5_0; cases n5_0
  let ar : Nat → Nat := fun i => match i with
    | 0 => q0
    | 1 => q1
    | 2 => q2
    | 3 => q3
    | 4 => q4
    | _ => q5
  have hd : md m ar := by
    refine ⟨fun i hi => ?_, fun i j hi hj he => ?_⟩
    · rcases (show i = 0 ∨ i = 1 ∨ i = 2 ∨ i = 3 ∨ i = 4 ∨ i = 5 by omega) with rfl | rfl | rfl | rfl | rfl | rfl
      · exact m0
      · exact m1
      · exact m2
      · exact m3
      · exact m4
      · exact m5
    · rcases (show i = 0 ∨ i = 1 ∨ i = 2 ∨ i = 3 ∨ i = 4 ∨ i = 5 by omega) with rfl | rfl | rfl | rfl | rfl | rfl <;> rcases (show j = 0 ∨ j = 1 ∨ j = 2 ∨ j = 3 ∨ j = 4 ∨ j = 5 by omega) with rfl | rfl | rfl | rfl | rfl | rfl
      · rfl
      · exact absurd he.symm d1_0
      · exact absurd he.symm d2_0
      · exact absurd he.symm d3_0
      · exact absurd he.symm d4_0
      · exact absurd he.symm d5_0
      · exact absurd he d1_0
      · rfl
      · exact absurd he.symm d2_1
      · exact absurd he.symm d3_1
      · exact absurd he.symm d4_1
      · exact absurd he.symm d5_1
      · exact absurd he d2_0
      · exact absurd he d2_1
      · rfl
      · exact absurd he.symm d3_2
      · exact absurd he.symm d4_2
      · exact absurd he.symm d5_2
      · exact absurd he d3_0
      · exact absurd he d3_1
      · exact absurd he d3_2
      · rfl
      · exact absurd he.symm d4_3
      · exact absurd he.symm d5_3
      · exact absurd he d4_0
      · exact absurd he d4_1
      · exact absurd he d4_2
      · exact absurd he d4_3
      · rfl
      · exact absurd he.symm d5_4
      · exact absurd he d5_0
      · exact absurd he d5_1
      · exact absurd he d5_2
      · exact absurd he d5_3
      · exact absurd he d5_4
      · rfl
  have hfin : h6 = mh h m ar m_z := by
    funext q
    by_cases c : q = m
    · rw [c, hX6, mh_m]; rfl
    by_cases c0 : q = q0
    · rw [c0, show mh h m ar m_z q0 = some (eI 88 (fun _ => 0)) from mh_a0 hd, eh6, pu_n m0, pu_n (Ne.symm d5_0), eh5, pu_n m0, pu_n (Ne.symm d4_0), eh4, pu_n m0, pu_n (Ne.symm d3_0), eh3, pu_n m0, pu_n (Ne.symm d2_0), eh2, pu_n m0, pu_n (Ne.symm d1_0), eh1, pu_n m0, pu_s]
    by_cases c1 : q = q1
    · rw [c1, show mh h m ar m_z q1 = some (eI 88 (fun _ => 0)) from mh_a1 hd, eh6, pu_n m1, pu_n (Ne.symm d5_1), eh5, pu_n m1, pu_n (Ne.symm d4_1), eh4, pu_n m1, pu_n (Ne.symm d3_1), eh3, pu_n m1, pu_n (Ne.symm d2_1), eh2, pu_n m1, pu_s]
    by_cases c2 : q = q2
    · rw [c2, show mh h m ar m_z q2 = some (eI 352 (fun _ => 0)) from mh_a2 hd, eh6, pu_n m2, pu_n (Ne.symm d5_2), eh5, pu_n m2, pu_n (Ne.symm d4_2), eh4, pu_n m2, pu_n (Ne.symm d3_2), eh3, pu_n m2, pu_s]
    by_cases c3 : q = q3
    · rw [c3, show mh h m ar m_z q3 = some (eI 7 (fun _ => 0)) from mh_a3 hd, eh6, pu_n m3, pu_n (Ne.symm d5_3), eh5, pu_n m3, pu_n (Ne.symm d4_3), eh4, pu_n m3, pu_s]
    by_cases c4 : q = q4
    · rw [c4, show mh h m ar m_z q4 = some (eI 60 (fun _ => 0)) from mh_a4 hd, eh6, pu_n m4, pu_n (Ne.symm d5_4), eh5, pu_n m4, pu_s]
    by_cases c5 : q = q5
    · rw [c5, show mh h m ar m_z q5 = some (eI 3 (fun _ => 0)) from mh_a5 hd, eh6, pu_n m5, pu_s]
    rw [eh6, pu_n c, pu_n c5, eh5, pu_n c, pu_n c4, eh4, pu_n c, pu_n c3, eh3, pu_n c, pu_n c2, eh2, pu_n c, pu_n c1, eh1, pu_n c, pu_n c0]
    unfold mh
    rw [if_neg c, if_neg (show ¬ q = ar 0 from c0), if_neg (show ¬ q = ar 1 from c1), if_neg (show ¬ q = ar 2 from c2), if_neg (show ¬ q = ar 3 from c3), if_neg (show ¬ q = ar 4 from c4), if_neg (show ¬ q = ar 5 from c5)]
  rw [hfin]
  show J Γ (mh h m ar m_z) 6 598 52 [(0, .ref m)] []
  refine J_iconst X (nI 0) (dt tX3_init 26 rfl) (by decide) ?_
  refine J_istore_n X (lv2 := [(1, .int (nI 0)), (0, .ref m)]) (dt tX3_init 27 rfl) rfl rfl rfl ?_
  refine J_sub [1, 0] rfl ?_
  refine J_heap (h2 := mh h m ar (sA m_z 0 (m_ini (fun _ => 0) 0))) (congrArg (mh h m ar) (sA_id m_z 0).symm) ?_
  refine up_to 7 (P := fun i1 => J Γ (mh h m ar (sA m_z 0 (m_ini (fun _ => 0) i1))) 6 598 54 [(0, .ref m), (1, .int (nI i1))] []) ?_ ?_
  · show J Γ (mh h m ar (sA m_z 0 (m_ini (fun _ => 0) 7))) 6 598 54 [(0, .ref m), (1, .int (nI 7))] []
    refine J_iload_n X (dt tX3_init 28 rfl) 1 rfl ?_
    refine J_bipush X (nI 7) (dt tX3_init 29 rfl) (by decide) ?_
    refine J_icmp_ge X 106 (dt tX3_init 30 rfl) (by decide) (fun _ => ?_) (fun c9 => absurd (nI_le (Nat.le_refl 7) (by decide)) c9)
    exact J_vret X rr (dt tX3_init 61 rfl) (Nat.le_of_ble_eq_true rfl) (Nat.le_of_ble_eq_true rfl) ⟨rfl, ar, hd, ⟨n0_0, n1_0, n2_0, n3_0, n4_0, n5_0⟩, rfl⟩
  · intro i1 hi1 ih
    refine J_iload_n X (dt tX3_init 28 rfl) 1 rfl ?_
    refine J_bipush X (nI 7) (dt tX3_init 29 rfl) (by decide) ?_
    refine J_icmp_ge X 106 (dt tX3_init 30 rfl) (by decide) (fun c9 => absurd c9 (nI_ge hi1 (by decide))) (fun _ => ?_)
    refine J_aload_n X (dt tX3_init 31 rfl) 0 rfl ?_
    refine M_get_all X (dt tX3_init 32 rfl) ?_
    refine J_bipush X (nI 33) (dt tX3_init 33 rfl) (by decide) ?_
    refine J_iload_n X (dt tX3_init 34 rfl) 1 rfl ?_
    refine J_iaddN X (dt tX3_init 35 rfl) ?_
    refine J_iconst X (-1) (dt tX3_init 36 rfl) (by decide) ?_
    refine M_ast_all X hd (dt tX3_init 37 rfl) (by omega) ?_
    refine J_heap (h2 := mh h m ar (sA m_z 0 (upd (m_ini (fun _ => 0) i1) (33 + i1) (-1)))) (congrArg (mh h m ar) (sA_sA _ _ _ _)) ?_
    refine J_aload_n X (dt tX3_init 38 rfl) 0 rfl ?_
    refine M_get_all X (dt tX3_init 39 rfl) ?_
    refine J_bipush X (nI 40) (dt tX3_init 40 rfl) (by decide) ?_
    refine J_iload_n X (dt tX3_init 41 rfl) 1 rfl ?_
    refine J_iaddN X (dt tX3_init 42 rfl) ?_
    refine J_iconst X (-1) (dt tX3_init 43 rfl) (by decide) ?_
    refine M_ast_all X hd (dt tX3_init 44 rfl) (by omega) ?_
    refine J_heap (h2 := mh h m ar (sA m_z 0 (upd (upd (m_ini (fun _ => 0) i1) (33 + i1) (-1)) (40 + i1) (-1)))) (congrArg (mh h m ar) (sA_sA _ _ _ _)) ?_
    refine J_aload_n X (dt tX3_init 45 rfl) 0 rfl ?_
    refine M_get_all X (dt tX3_init 46 rfl) ?_
    refine J_bipush X (nI 47) (dt tX3_init 47 rfl) (by decide) ?_
    refine J_iload_n X (dt tX3_init 48 rfl) 1 rfl ?_
    refine J_iaddN X (dt tX3_init 49 rfl) ?_
    refine J_iconst X (-1) (dt tX3_init 50 rfl) (by decide) ?_
    refine M_ast_all X hd (dt tX3_init 51 rfl) (by omega) ?_
    refine J_heap (h2 := mh h m ar (sA m_z 0 (upd (upd (upd (m_ini (fun _ => 0) i1) (33 + i1) (-1)) (40 + i1) (-1)) (47 + i1) (-1)))) (congrArg (mh h m ar) (sA_sA _ _ _ _)) ?_
    refine J_aload_n X (dt tX3_init 52 rfl) 0 rfl ?_
    refine M_get_all X (dt tX3_init 53 rfl) ?_
    refine J_bipush X (nI 61) (dt tX3_init 54 rfl) (by decide) ?_
    refine J_iload_n X (dt tX3_init 55 rfl) 1 rfl ?_
    refine J_iaddN X (dt tX3_init 56 rfl) ?_
    refine J_iconst X (-1) (dt tX3_init 57 rfl) (by decide) ?_
    refine M_ast_all X hd (dt tX3_init 58 rfl) (by omega) ?_
    refine J_heap (h2 := mh h m ar (sA m_z 0 (upd (upd (upd (upd (m_ini (fun _ => 0) i1) (33 + i1) (-1)) (40 + i1) (-1)) (47 + i1) (-1)) (61 + i1) (-1)))) (congrArg (mh h m ar) (sA_sA _ _ _ _)) ?_
    refine J_iinc X (lv2 := [(1, .int (nI (i1 + 1))), (0, .ref m)]) (dt tX3_init 59 rfl) 1 (nI (i1 + 1)) rfl (nI_add i1 1) rfl rfl ?_
    refine J_goto X (tgt := 54) (dt tX3_init 60 rfl) (by decide) ?_
    refine J_sub [1, 0] rfl ?_
    exact ih
