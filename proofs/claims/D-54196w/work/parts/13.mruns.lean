/-! printed by gen/modelm.py -/
set_option maxRecDepth 100000
theorem q1913 : (Jvm.Cond.methodLink "LeadRacesModel" (68 : Nat) ({ cls := "LeadRacesModel", name := "runs", desc := "(I)Z" } : Jvm.MethodName)) ∈ lw_all := lw_g (lw_at lw_m8 165 rfl) rfl
theorem q1915 : (Jvm.Cond.instanceMethod ({ cls := "LeadRacesModel", name := "runs", desc := "(I)Z" } : Jvm.MethodName)) ∈ lw_all := lw_g (lw_at lw_m8 167 rfl) rfl
theorem q1916 : (Jvm.Cond.code ({ cls := "LeadRacesModel", name := "runs", desc := "(I)Z" } : Jvm.MethodName) prog_12_method_15_code (10 : Nat) (Option.some Jvm.ClassFile.FieldType.boolean)) ∈ lw_all := lw_g (lw_at lw_m8 168 rfl) rfl
theorem q1917 : (Jvm.Cond.methodLink "LeadRacesModel" (51 : Nat) ({ cls := "LeadRacesModel", name := "racer", desc := "(II)I" } : Jvm.MethodName)) ∈ lw_all := lw_g (lw_at lw_m8 169 rfl) rfl
theorem q1919 : (Jvm.Cond.instanceMethod ({ cls := "LeadRacesModel", name := "racer", desc := "(II)I" } : Jvm.MethodName)) ∈ lw_all := lw_g (lw_at lw_m8 171 rfl) rfl
theorem q1920 : (Jvm.Cond.code ({ cls := "LeadRacesModel", name := "racer", desc := "(II)I" } : Jvm.MethodName) prog_12_method_14_code (4 : Nat) (Option.some Jvm.ClassFile.FieldType.int)) ∈ lw_all := lw_g (lw_at lw_m8 172 rfl) rfl
theorem q1921 : (Jvm.Cond.methodLink "LeadRacesModel" (54 : Nat) ({ cls := "LeadRacesModel", name := "isAhead", desc := "(III)Z" } : Jvm.MethodName)) ∈ lw_all := lw_g (lw_at lw_m8 173 rfl) rfl
theorem q1923 : (Jvm.Cond.instanceMethod ({ cls := "LeadRacesModel", name := "isAhead", desc := "(III)Z" } : Jvm.MethodName)) ∈ lw_all := lw_g (lw_at lw_m8 175 rfl) rfl
theorem q1924 : (Jvm.Cond.code ({ cls := "LeadRacesModel", name := "isAhead", desc := "(III)Z" } : Jvm.MethodName) prog_12_method_12_code (5 : Nat) (Option.some Jvm.ClassFile.FieldType.boolean)) ∈ lw_all := lw_g (lw_at lw_m8 176 rfl) rfl
theorem q1929 : (Jvm.Cond.methodLink "LeadRacesModel" (58 : Nat) ({ cls := "LeadRacesModel", name := "overtakes", desc := "(II)I" } : Jvm.MethodName)) ∈ lw_all := lw_g (lw_at lw_m8 181 rfl) rfl
theorem q1931 : (Jvm.Cond.instanceMethod ({ cls := "LeadRacesModel", name := "overtakes", desc := "(II)I" } : Jvm.MethodName)) ∈ lw_all := lw_g (lw_at lw_m8 183 rfl) rfl
theorem q1932 : (Jvm.Cond.code ({ cls := "LeadRacesModel", name := "overtakes", desc := "(II)I" } : Jvm.MethodName) prog_12_method_13_code (5 : Nat) (Option.some Jvm.ClassFile.FieldType.int)) ∈ lw_all := lw_g (lw_at lw_m8 184 rfl) rfl
theorem q1933 : (Jvm.Cond.methodLink "LeadRacesModel" (71 : Nat) ({ cls := "LeadRacesModel", name := "putsDown", desc := "()Z" } : Jvm.MethodName)) ∈ lw_all := lw_g (lw_at lw_m8 185 rfl) rfl
theorem q1935 : (Jvm.Cond.instanceMethod ({ cls := "LeadRacesModel", name := "putsDown", desc := "()Z" } : Jvm.MethodName)) ∈ lw_all := lw_g (lw_at lw_m8 187 rfl) rfl
theorem q1936 : (Jvm.Cond.code ({ cls := "LeadRacesModel", name := "putsDown", desc := "()Z" } : Jvm.MethodName) prog_12_method_18_code (2 : Nat) (Option.some Jvm.ClassFile.FieldType.boolean)) ∈ lw_all := lw_g (lw_at lw_m8 188 rfl) rfl
/-! the reference's races -/
def on (o : Option Nat) : Int32 := match o with
  | none => -1
  | some j => nI j
def lo (x : Int32) : Option Nat := if x = -1 then none else some x.toNatClampNeg
/-- a lane, or none -/
def isL (x : Int32) : Prop := x = -1 ∨ ∃ j : Nat, j < 8 ∧ x = nI j
theorem nI_nm1 {j : Nat} (h : j < 2 ^ 31) : ¬ nI j = -1 := fun z => by
  have := nI_toInt h
  rw [z] at this
  have h2 : (-1 : Int32).toInt = -1 := by decide
  rw [h2] at this
  omega
theorem lo_m1 : lo (-1) = none := if_pos rfl
theorem lo_nI {j : Nat} (h : j < 2 ^ 31) : lo (nI j) = some j := by
  unfold lo
  rw [if_neg (nI_nm1 h), nI_clamp h]
theorem isL.on {x : Int32} (h : isL x) : on (lo x) = x := by
  rcases h with rfl | ⟨j, hj, rfl⟩
  · rw [lo_m1]; rfl
  · rw [lo_nI (by omega)]; rfl
theorem isL_on {o : Option Nat} (h : ∀ j, o = some j → j < 8) : isL (on o) := by
  cases o with
  | none => exact Or.inl rfl
  | some j => exact Or.inr ⟨j, h j rfl, rfl⟩
theorem isL.lt {x : Int32} (h : isL x) {j : Nat} (hj : lo x = some j) : j < 8 := by
  rcases h with rfl | ⟨i, hi, rfl⟩
  · rw [lo_m1] at hj; cases hj
  · rw [lo_nI (by omega)] at hj; cases hj; exact hi
def rW (σ : MS) (oa ob : Option Nat) : Option Nat × Option Nat := match oa, ob with
  | some i, some j => if m_isAhead σ i j (nI 0) = 0 then (some j, some i) else (some i, some j)
  | some i, none => (some i, none)
  | none, ob => (ob, none)
def rU (σ : MS) (p : Option Nat × Option Nat) : Int32 := match p with
  | (some w, some o) => if m_overtakes σ o w = -1 then -1 else σ.1 0 0 + m_overtakes σ o w
  | _ => -1
def rP (σ : MS) (r : Nat) : Option Nat × Option Nat := rW σ (lo (m_racer σ r 0)) (lo (m_racer σ r 1))
def m_runsA (σ : MS) (r : Nat) (p : Option Nat × Option Nat) : Nat → Int32 := upd (upd (upd (upd (upd (σ.1 0) (33 + r) (on p.1)) (40 + r) (on p.2)) (47 + r) (rU σ p)) (54 + r) (σ.1 0 (54 + r) + 1)) (61 + r) (σ.1 0 0)
def m_runsT (σ : MS) (r : Nat) : MS := sA σ 0 (m_runsA σ r (rP σ r))
def m_runsR (σ : MS) (r : Nat) : Int32 := if on (rP σ r).1 = σ.1 0 (33 + r) then 0 else 1
theorem m_runsR_B (σ : MS) (r : Nat) : isB (m_runsR σ r) := isB_ite isB_0 isB_1
theorem m_runs_of {h0 : PH} {m : Nat} {ar : Nat → Nat} {σ : MS} {r : Nat} {oa ob : Option Nat} {p : Option Nat × Option Nat} {x : Int32} {f : Nat → Int32} (ha : lo (m_racer σ r 0) = oa) (hb : lo (m_racer σ r 1) = ob) (hp : rW σ oa ob = p) (hx : x = if on p.1 = σ.1 0 (33 + r) then 0 else 1) (hf : f = m_runsA σ r p) : PM h0 m ar (some (.int (m_runsR σ r))) (m_runsT σ r) (some (.int x)) (mh h0 m ar (sA σ 0 f)) := by
  subst ha hb hp hx hf
  exact ⟨rfl, rfl⟩
abbrev cX3_runs : ByteArray := prog_12_method_15_code
def yX3_runs : MethodName := ⟨RX3, "runs", "(I)Z"⟩
theorem tX3_runs : dtab cX3_runs [(0, .aload_n 0, 1, 1), (1, .iload_n 1, 1, 2), (2, .iconst 0, 1, 3), (3, .invokevirtual 51, 3, 6), (6, .istore_n 2, 1, 7), (7, .aload_n 0, 1, 8), (8, .iload_n 1, 1, 9), (9, .iconst 1, 1, 10), (10, .invokevirtual 51, 3, 13), (13, .istore_n 3, 1, 14), (14, .aload_n 0, 1, 15), (15, .getfield 7, 3, 18), (18, .bipush 33, 2, 20), (20, .iload_n 1, 1, 21), (21, .iadd, 1, 22), (22, .iaload, 1, 23), (23, .istore 4, 2, 25), (25, .iload_n 2, 1, 26), (26, .iconst (-1), 1, 27), (27, .if_icmp .eq 12, 3, 30), (30, .iload_n 3, 1, 31), (31, .iconst (-1), 1, 32), (32, .if_icmp .eq 7, 3, 35), (35, .iconst 1, 1, 36), (36, .goto 4, 3, 39), (39, .iconst 0, 1, 40), (40, .istore 5, 2, 42), (42, .iload 5, 2, 44), (44, .ifCond .eq 13, 3, 47), (47, .aload_n 0, 1, 48), (48, .iload_n 2, 1, 49), (49, .iload_n 3, 1, 50), (50, .iconst 0, 1, 51), (51, .invokevirtual 54, 3, 54), (54, .goto 13, 3, 57), (57, .iload_n 2, 1, 58), (58, .iconst (-1), 1, 59), (59, .if_icmp .eq 7, 3, 62), (62, .iconst 1, 1, 63), (63, .goto 4, 3, 66), (66, .iconst 0, 1, 67), (67, .istore 6, 2, 69), (69, .iload 6, 2, 71), (71, .ifCond .eq 7, 3, 74), (74, .iload_n 2, 1, 75), (75, .goto 4, 3, 78), (78, .iload_n 3, 1, 79), (79, .istore 7, 2, 81), (81, .iload 6, 2, 83), (83, .ifCond .eq 7, 3, 86), (86, .iload_n 3, 1, 87), (87, .goto 4, 3, 90), (90, .iload_n 2, 1, 91), (91, .istore 8, 2, 93), (93, .iload 5, 2, 95), (95, .ifCond .eq 14, 3, 98), (98, .aload_n 0, 1, 99), (99, .iload 8, 2, 101), (101, .iload 7, 2, 103), (103, .invokevirtual 58, 3, 106), (106, .goto 4, 3, 109), (109, .iconst (-1), 1, 110), (110, .istore 9, 2, 112), (112, .aload_n 0, 1, 113), (113, .getfield 7, 3, 116), (116, .bipush 33, 2, 118), (118, .iload_n 1, 1, 119), (119, .iadd, 1, 120), (120, .iload 7, 2, 122), (122, .iastore, 1, 123), (123, .aload_n 0, 1, 124), (124, .getfield 7, 3, 127), (127, .bipush 40, 2, 129), (129, .iload_n 1, 1, 130), (130, .iadd, 1, 131), (131, .iload 5, 2, 133), (133, .ifCond .eq 8, 3, 136), (136, .iload 8, 2, 138), (138, .goto 4, 3, 141), (141, .iconst (-1), 1, 142), (142, .iastore, 1, 143), (143, .aload_n 0, 1, 144), (144, .getfield 7, 3, 147), (147, .bipush 47, 2, 149), (149, .iload_n 1, 1, 150), (150, .iadd, 1, 151), (151, .iload 9, 2, 153), (153, .iconst (-1), 1, 154), (154, .if_icmp .ne 7, 3, 157), (157, .iconst (-1), 1, 158), (158, .goto 12, 3, 161), (161, .aload_n 0, 1, 162), (162, .getfield 7, 3, 165), (165, .iconst 0, 1, 166), (166, .iaload, 1, 167), (167, .iload 9, 2, 169), (169, .iadd, 1, 170), (170, .iastore, 1, 171), (171, .aload_n 0, 1, 172), (172, .getfield 7, 3, 175), (175, .bipush 54, 2, 177), (177, .iload_n 1, 1, 178), (178, .iadd, 1, 179), (179, .dup2, 1, 180), (180, .iaload, 1, 181), (181, .iconst 1, 1, 182), (182, .iadd, 1, 183), (183, .iastore, 1, 184), (184, .aload_n 0, 1, 185), (185, .getfield 7, 3, 188), (188, .bipush 61, 2, 190), (190, .iload_n 1, 1, 191), (191, .iadd, 1, 192), (192, .aload_n 0, 1, 193), (193, .getfield 7, 3, 196), (196, .iconst 0, 1, 197), (197, .iaload, 1, 198), (198, .iastore, 1, 199), (199, .iload 7, 2, 201), (201, .iload 4, 2, 203), (203, .if_icmp .eq 7, 3, 206), (206, .iconst 1, 1, 207), (207, .goto 4, 3, 210), (210, .iconst 0, 1, 211), (211, .ireturn, 1, 212)] := by unfold dtab; decide +kernel
theorem okX3_runs : okY yX3_runs 1 := by decide +kernel
set_option maxHeartbeats 4000000 in
theorem c_runs (l : Launch) (D : va_G) {h0 : PH} {m : Nat} {ar : Nat → Nat} (hd : md m ar) (σ : MS) (r : Nat) (hr : r < 7) (hro : isL (m_racer σ r 0) ∧ isL (m_racer σ r 1)) : Ct l D yX3_runs cX3_runs 10 (some .boolean) (rmM 2 46) [.ref m, .int (nI r)] (mh h0 m ar σ) (PM h0 m ar (some (.int (m_runsR σ r))) (m_runsT σ r)) := by
  refine Ct.of (by decide) rfl (fun Γ X rr hmn => ?_)
  have X : Cx l D cX3_runs RX3 10 (rmM 2 46) Γ := X
  show J Γ (mh h0 m ar σ) 0 0 0 [(0, .ref m), (1, .int (nI r))] []
  obtain ⟨ha, hb⟩ := hro
  rcases ha with ha | ⟨ja, hja, ha⟩ <;> rcases hb with hb | ⟨jb, hjb, hb⟩
  · refine J_aload_n X (dt tX3_runs 0 rfl) 0 rfl ?_
    refine J_iload_n X (dt tX3_runs 1 rfl) 1 rfl ?_
    refine J_iconst X (nI 0) (dt tX3_runs 2 rfl) (by decide) ?_
    refine M_callV (rest := []) X (dt tX3_runs 3 rfl) (c_racer l D hd σ r 0 (by omega) (by omega)) (lw_V q1917 q1919 qs41 q86 q1920) okX3_racer rfl rfl ⟨Nat.le_of_ble_eq_true rfl, Nat.le_of_ble_eq_true rfl⟩ rfl (Nat.le_of_ble_eq_true rfl) (Nat.zero_le _) (Nat.zero_le _) ?_
    refine J_topi ha ?_
    refine J_istore_n X (lv2 := [(2, .int (-1)), (0, .ref m), (1, .int (nI r))]) (dt tX3_runs 4 rfl) rfl rfl rfl ?_
    refine J_aload_n X (dt tX3_runs 5 rfl) 1 rfl ?_
    refine J_iload_n X (dt tX3_runs 6 rfl) 2 rfl ?_
    refine J_iconst X (nI 1) (dt tX3_runs 7 rfl) (by decide) ?_
    refine M_callV (rest := []) X (dt tX3_runs 8 rfl) (c_racer l D hd σ r 1 (by omega) (by omega)) (lw_V q1917 q1919 qs41 q86 q1920) okX3_racer rfl rfl ⟨Nat.le_of_ble_eq_true rfl, Nat.le_of_ble_eq_true rfl⟩ rfl (Nat.le_of_ble_eq_true rfl) (Nat.zero_le _) (Nat.zero_le _) ?_
    refine J_topi hb ?_
    refine J_istore_n X (lv2 := [(3, .int (-1)), (2, .int (-1)), (0, .ref m), (1, .int (nI r))]) (dt tX3_runs 9 rfl) rfl rfl rfl ?_
    refine J_aload_n X (dt tX3_runs 10 rfl) 2 rfl ?_
    refine M_get_all X (dt tX3_runs 11 rfl) ?_
    refine J_bipush X (nI 33) (dt tX3_runs 12 rfl) (by decide) ?_
    refine J_iload_n X (dt tX3_runs 13 rfl) 3 rfl ?_
    refine J_iaddN X (dt tX3_runs 14 rfl) ?_
    refine M_ald_all X hd (dt tX3_runs 15 rfl) (by omega) ?_
    refine J_istore X (lv2 := [(4, .int (σ.1 0 (33 + r))), (3, .int (-1)), (2, .int (-1)), (0, .ref m), (1, .int (nI r))]) (dt tX3_runs 16 rfl) rfl rfl ?_
    refine J_iload_n X (dt tX3_runs 17 rfl) 2 rfl ?_
    refine J_iconst X (-1) (dt tX3_runs 18 rfl) (by decide) ?_
    refine J_icmp_eq X 39 (dt tX3_runs 19 rfl) (by decide) (fun _ => ?_) (fun c9 => absurd (rfl) c9)
    refine J_iconst X (nI 0) (dt tX3_runs 25 rfl) (by decide) ?_
    refine J_istore X (lv2 := [(5, .int (nI 0)), (4, .int (σ.1 0 (33 + r))), (3, .int (-1)), (2, .int (-1)), (0, .ref m), (1, .int (nI r))]) (dt tX3_runs 26 rfl) rfl rfl ?_
    refine J_iload X (dt tX3_runs 27 rfl) 0 rfl ?_
    refine J_if_eq X 57 (dt tX3_runs 28 rfl) (by decide) (fun _ => ?_) (fun c9 => absurd (rfl) c9)
    refine J_iload_n X (dt tX3_runs 35 rfl) 3 rfl ?_
    refine J_iconst X (-1) (dt tX3_runs 36 rfl) (by decide) ?_
    refine J_icmp_eq X 66 (dt tX3_runs 37 rfl) (by decide) (fun _ => ?_) (fun c9 => absurd (rfl) c9)
    refine J_iconst X (nI 0) (dt tX3_runs 40 rfl) (by decide) ?_
    refine J_istore X (lv2 := [(6, .int (nI 0)), (5, .int (nI 0)), (4, .int (σ.1 0 (33 + r))), (3, .int (-1)), (2, .int (-1)), (0, .ref m), (1, .int (nI r))]) (dt tX3_runs 41 rfl) rfl rfl ?_
    refine J_iload X (dt tX3_runs 42 rfl) 0 rfl ?_
    refine J_if_eq X 78 (dt tX3_runs 43 rfl) (by decide) (fun _ => ?_) (fun c9 => absurd (rfl) c9)
    refine J_iload_n X (dt tX3_runs 46 rfl) 3 rfl ?_
    refine J_istore X (lv2 := [(7, .int (-1)), (6, .int (nI 0)), (5, .int (nI 0)), (4, .int (σ.1 0 (33 + r))), (3, .int (-1)), (2, .int (-1)), (0, .ref m), (1, .int (nI r))]) (dt tX3_runs 47 rfl) rfl rfl ?_
    refine J_iload X (dt tX3_runs 48 rfl) 1 rfl ?_
    refine J_if_eq X 90 (dt tX3_runs 49 rfl) (by decide) (fun _ => ?_) (fun c9 => absurd (rfl) c9)
    refine J_iload_n X (dt tX3_runs 52 rfl) 5 rfl ?_
    refine J_istore X (lv2 := [(8, .int (-1)), (7, .int (-1)), (6, .int (nI 0)), (5, .int (nI 0)), (4, .int (σ.1 0 (33 + r))), (3, .int (-1)), (2, .int (-1)), (0, .ref m), (1, .int (nI r))]) (dt tX3_runs 53 rfl) rfl rfl ?_
    refine J_iload X (dt tX3_runs 54 rfl) 3 rfl ?_
    refine J_if_eq X 109 (dt tX3_runs 55 rfl) (by decide) (fun _ => ?_) (fun c9 => absurd (rfl) c9)
    refine J_iconst X (-1) (dt tX3_runs 61 rfl) (by decide) ?_
    refine J_istore X (lv2 := [(9, .int (-1)), (8, .int (-1)), (7, .int (-1)), (6, .int (nI 0)), (5, .int (nI 0)), (4, .int (σ.1 0 (33 + r))), (3, .int (-1)), (2, .int (-1)), (0, .ref m), (1, .int (nI r))]) (dt tX3_runs 62 rfl) rfl rfl ?_
    refine J_aload_n X (dt tX3_runs 63 rfl) 8 rfl ?_
    refine M_get_all X (dt tX3_runs 64 rfl) ?_
    refine J_bipush X (nI 33) (dt tX3_runs 65 rfl) (by decide) ?_
    refine J_iload_n X (dt tX3_runs 66 rfl) 9 rfl ?_
    refine J_iaddN X (dt tX3_runs 67 rfl) ?_
    refine J_iload X (dt tX3_runs 68 rfl) 2 rfl ?_
    refine M_ast_all X hd (dt tX3_runs 69 rfl) (by omega) ?_
    refine J_aload_n X (dt tX3_runs 70 rfl) 8 rfl ?_
    refine M_get_all X (dt tX3_runs 71 rfl) ?_
    refine J_bipush X (nI 40) (dt tX3_runs 72 rfl) (by decide) ?_
    refine J_iload_n X (dt tX3_runs 73 rfl) 9 rfl ?_
    refine J_iaddN X (dt tX3_runs 74 rfl) ?_
    refine J_iload X (dt tX3_runs 75 rfl) 4 rfl ?_
    refine J_if_eq X 141 (dt tX3_runs 76 rfl) (by decide) (fun _ => ?_) (fun c9 => absurd (rfl) c9)
    refine J_iconst X (-1) (dt tX3_runs 79 rfl) (by decide) ?_
    refine M_ast_all X hd (dt tX3_runs 80 rfl) (by omega) ?_
    refine J_heap (h2 := mh h0 m ar (sA σ 0 (upd (upd (σ.1 0) (33 + r) (-1)) (40 + r) (-1)))) (congrArg (mh h0 m ar) (sA_sA _ _ _ _)) ?_
    refine J_aload_n X (dt tX3_runs 81 rfl) 8 rfl ?_
    refine M_get_all X (dt tX3_runs 82 rfl) ?_
    refine J_bipush X (nI 47) (dt tX3_runs 83 rfl) (by decide) ?_
    refine J_iload_n X (dt tX3_runs 84 rfl) 9 rfl ?_
    refine J_iaddN X (dt tX3_runs 85 rfl) ?_
    refine J_iload X (dt tX3_runs 86 rfl) 0 rfl ?_
    refine J_iconst X (-1) (dt tX3_runs 87 rfl) (by decide) ?_
    refine J_icmp_ne X 161 (dt tX3_runs 88 rfl) (by decide) (fun c9 => absurd (rfl) c9) (fun _ => ?_)
    refine J_iconst X (-1) (dt tX3_runs 89 rfl) (by decide) ?_
    refine J_goto X (tgt := 170) (dt tX3_runs 90 rfl) (by decide) ?_
    refine M_ast_all X hd (dt tX3_runs 97 rfl) (by omega) ?_
    refine J_heap (h2 := mh h0 m ar (sA σ 0 (upd (upd (upd (σ.1 0) (33 + r) (-1)) (40 + r) (-1)) (47 + r) (-1)))) (congrArg (mh h0 m ar) (sA_sA _ _ _ _)) ?_
    refine J_aload_n X (dt tX3_runs 98 rfl) 8 rfl ?_
    refine M_get_all X (dt tX3_runs 99 rfl) ?_
    refine J_bipush X (nI 54) (dt tX3_runs 100 rfl) (by decide) ?_
    refine J_iload_n X (dt tX3_runs 101 rfl) 9 rfl ?_
    refine J_iaddN X (dt tX3_runs 102 rfl) ?_
    refine J_dup2 X (dt tX3_runs 103 rfl) rfl rfl ?_
    refine M_ald_all X hd (dt tX3_runs 104 rfl) (by omega) ?_
    refine J_topi (show upd (upd (upd (σ.1 0) (33 + r) (-1)) (40 + r) (-1)) (47 + r) (-1) (54 + r) = (upd (upd (σ.1 0) (33 + r) (-1)) (40 + r) (-1)) (54 + r) from pk_un (by omega)) ?_
    refine J_topi (show upd (upd (σ.1 0) (33 + r) (-1)) (40 + r) (-1) (54 + r) = (upd (σ.1 0) (33 + r) (-1)) (54 + r) from pk_un (by omega)) ?_
    refine J_topi (show upd (σ.1 0) (33 + r) (-1) (54 + r) = (σ.1 0) (54 + r) from pk_un (by omega)) ?_
    refine J_iconst X (nI 1) (dt tX3_runs 105 rfl) (by decide) ?_
    refine J_iadd X (dt tX3_runs 106 rfl) ?_
    refine M_ast_all X hd (dt tX3_runs 107 rfl) (by omega) ?_
    refine J_heap (h2 := mh h0 m ar (sA σ 0 (upd (upd (upd (upd (σ.1 0) (33 + r) (-1)) (40 + r) (-1)) (47 + r) (-1)) (54 + r) ((σ.1 0 (54 + r)) + (nI 1))))) (congrArg (mh h0 m ar) (sA_sA _ _ _ _)) ?_
    refine J_aload_n X (dt tX3_runs 108 rfl) 8 rfl ?_
    refine M_get_all X (dt tX3_runs 109 rfl) ?_
    refine J_bipush X (nI 61) (dt tX3_runs 110 rfl) (by decide) ?_
    refine J_iload_n X (dt tX3_runs 111 rfl) 9 rfl ?_
    refine J_iaddN X (dt tX3_runs 112 rfl) ?_
    refine J_aload_n X (dt tX3_runs 113 rfl) 8 rfl ?_
    refine M_get_all X (dt tX3_runs 114 rfl) ?_
    refine J_iconst X (nI 0) (dt tX3_runs 115 rfl) (by decide) ?_
    refine M_ald_all X hd (dt tX3_runs 116 rfl) (by decide) ?_
    refine J_topi (show upd (upd (upd (upd (σ.1 0) (33 + r) (-1)) (40 + r) (-1)) (47 + r) (-1)) (54 + r) ((σ.1 0 (54 + r)) + (nI 1)) 0 = (upd (upd (upd (σ.1 0) (33 + r) (-1)) (40 + r) (-1)) (47 + r) (-1)) 0 from pk_un (by omega)) ?_
    refine J_topi (show upd (upd (upd (σ.1 0) (33 + r) (-1)) (40 + r) (-1)) (47 + r) (-1) 0 = (upd (upd (σ.1 0) (33 + r) (-1)) (40 + r) (-1)) 0 from pk_un (by omega)) ?_
    refine J_topi (show upd (upd (σ.1 0) (33 + r) (-1)) (40 + r) (-1) 0 = (upd (σ.1 0) (33 + r) (-1)) 0 from pk_un (by omega)) ?_
    refine J_topi (show upd (σ.1 0) (33 + r) (-1) 0 = (σ.1 0) 0 from pk_un (by omega)) ?_
    refine M_ast_all X hd (dt tX3_runs 117 rfl) (by omega) ?_
    refine J_heap (h2 := mh h0 m ar (sA σ 0 (upd (upd (upd (upd (upd (σ.1 0) (33 + r) (-1)) (40 + r) (-1)) (47 + r) (-1)) (54 + r) ((σ.1 0 (54 + r)) + (nI 1))) (61 + r) (σ.1 0 0)))) (congrArg (mh h0 m ar) (sA_sA _ _ _ _)) ?_
    refine J_iload X (dt tX3_runs 118 rfl) 2 rfl ?_
    refine J_iload X (dt tX3_runs 119 rfl) 5 rfl ?_
    have kj3 : ∀ v2 : Int32, v2 = (if (-1) = (σ.1 0 (33 + r)) then nI 0 else nI 1) → J Γ (mh h0 m ar (sA σ 0 (upd (upd (upd (upd (upd (σ.1 0) (33 + r) (-1)) (40 + r) (-1)) (47 + r) (-1)) (54 + r) ((σ.1 0 (54 + r)) + (nI 1))) (61 + r) (σ.1 0 0)))) 0 0 211 [(9, .int (-1)), (8, .int (-1)), (7, .int (-1)), (6, .int (nI 0)), (5, .int (nI 0)), (4, .int (σ.1 0 (33 + r))), (3, .int (-1)), (2, .int (-1)), (0, .ref m), (1, .int (nI r))] [.int v2] := by
      intro v2 ev2
      exact J_zret X rr (dt tX3_runs 124 rfl) (Nat.zero_le _) (Nat.zero_le _) (isB.nar (by subst_vars; exact isB_ite isB_0 isB_1)) (by subst_vars; exact m_runs_of (oa := none) (ob := none) (p := (none, none)) ((congrArg lo ha).trans lo_m1) ((congrArg lo hb).trans lo_m1) rfl rfl rfl)
    refine J_icmp_eq X 210 (dt tX3_runs 120 rfl) (by decide) (fun c1 => ?_) (fun c1 => ?_)
    · refine J_iconst X (nI 0) (dt tX3_runs 123 rfl) (by decide) ?_
      exact kj3 _ (if_pos c1).symm
    · refine J_iconst X (nI 1) (dt tX3_runs 121 rfl) (by decide) ?_
      refine J_goto X (tgt := 211) (dt tX3_runs 122 rfl) (by decide) ?_
      exact kj3 _ (if_neg c1).symm
  · refine J_aload_n X (dt tX3_runs 0 rfl) 0 rfl ?_
    refine J_iload_n X (dt tX3_runs 1 rfl) 1 rfl ?_
    refine J_iconst X (nI 0) (dt tX3_runs 2 rfl) (by decide) ?_
    refine M_callV (rest := []) X (dt tX3_runs 3 rfl) (c_racer l D hd σ r 0 (by omega) (by omega)) (lw_V q1917 q1919 qs41 q86 q1920) okX3_racer rfl rfl ⟨Nat.le_of_ble_eq_true rfl, Nat.le_of_ble_eq_true rfl⟩ rfl (Nat.le_of_ble_eq_true rfl) (Nat.zero_le _) (Nat.zero_le _) ?_
    refine J_topi ha ?_
    refine J_istore_n X (lv2 := [(2, .int (-1)), (0, .ref m), (1, .int (nI r))]) (dt tX3_runs 4 rfl) rfl rfl rfl ?_
    refine J_aload_n X (dt tX3_runs 5 rfl) 1 rfl ?_
    refine J_iload_n X (dt tX3_runs 6 rfl) 2 rfl ?_
    refine J_iconst X (nI 1) (dt tX3_runs 7 rfl) (by decide) ?_
    refine M_callV (rest := []) X (dt tX3_runs 8 rfl) (c_racer l D hd σ r 1 (by omega) (by omega)) (lw_V q1917 q1919 qs41 q86 q1920) okX3_racer rfl rfl ⟨Nat.le_of_ble_eq_true rfl, Nat.le_of_ble_eq_true rfl⟩ rfl (Nat.le_of_ble_eq_true rfl) (Nat.zero_le _) (Nat.zero_le _) ?_
    refine J_topi hb ?_
    refine J_istore_n X (lv2 := [(3, .int (nI jb)), (2, .int (-1)), (0, .ref m), (1, .int (nI r))]) (dt tX3_runs 9 rfl) rfl rfl rfl ?_
    refine J_aload_n X (dt tX3_runs 10 rfl) 2 rfl ?_
    refine M_get_all X (dt tX3_runs 11 rfl) ?_
    refine J_bipush X (nI 33) (dt tX3_runs 12 rfl) (by decide) ?_
    refine J_iload_n X (dt tX3_runs 13 rfl) 3 rfl ?_
    refine J_iaddN X (dt tX3_runs 14 rfl) ?_
    refine M_ald_all X hd (dt tX3_runs 15 rfl) (by omega) ?_
    refine J_istore X (lv2 := [(4, .int (σ.1 0 (33 + r))), (3, .int (nI jb)), (2, .int (-1)), (0, .ref m), (1, .int (nI r))]) (dt tX3_runs 16 rfl) rfl rfl ?_
    refine J_iload_n X (dt tX3_runs 17 rfl) 2 rfl ?_
    refine J_iconst X (-1) (dt tX3_runs 18 rfl) (by decide) ?_
    refine J_icmp_eq X 39 (dt tX3_runs 19 rfl) (by decide) (fun _ => ?_) (fun c9 => absurd (rfl) c9)
    refine J_iconst X (nI 0) (dt tX3_runs 25 rfl) (by decide) ?_
    refine J_istore X (lv2 := [(5, .int (nI 0)), (4, .int (σ.1 0 (33 + r))), (3, .int (nI jb)), (2, .int (-1)), (0, .ref m), (1, .int (nI r))]) (dt tX3_runs 26 rfl) rfl rfl ?_
    refine J_iload X (dt tX3_runs 27 rfl) 0 rfl ?_
    refine J_if_eq X 57 (dt tX3_runs 28 rfl) (by decide) (fun _ => ?_) (fun c9 => absurd (rfl) c9)
    refine J_iload_n X (dt tX3_runs 35 rfl) 3 rfl ?_
    refine J_iconst X (-1) (dt tX3_runs 36 rfl) (by decide) ?_
    refine J_icmp_eq X 66 (dt tX3_runs 37 rfl) (by decide) (fun _ => ?_) (fun c9 => absurd (rfl) c9)
    refine J_iconst X (nI 0) (dt tX3_runs 40 rfl) (by decide) ?_
    refine J_istore X (lv2 := [(6, .int (nI 0)), (5, .int (nI 0)), (4, .int (σ.1 0 (33 + r))), (3, .int (nI jb)), (2, .int (-1)), (0, .ref m), (1, .int (nI r))]) (dt tX3_runs 41 rfl) rfl rfl ?_
    refine J_iload X (dt tX3_runs 42 rfl) 0 rfl ?_
    refine J_if_eq X 78 (dt tX3_runs 43 rfl) (by decide) (fun _ => ?_) (fun c9 => absurd (rfl) c9)
    refine J_iload_n X (dt tX3_runs 46 rfl) 3 rfl ?_
    refine J_istore X (lv2 := [(7, .int (nI jb)), (6, .int (nI 0)), (5, .int (nI 0)), (4, .int (σ.1 0 (33 + r))), (3, .int (nI jb)), (2, .int (-1)), (0, .ref m), (1, .int (nI r))]) (dt tX3_runs 47 rfl) rfl rfl ?_
    refine J_iload X (dt tX3_runs 48 rfl) 1 rfl ?_
    refine J_if_eq X 90 (dt tX3_runs 49 rfl) (by decide) (fun _ => ?_) (fun c9 => absurd (rfl) c9)
    refine J_iload_n X (dt tX3_runs 52 rfl) 5 rfl ?_
    refine J_istore X (lv2 := [(8, .int (-1)), (7, .int (nI jb)), (6, .int (nI 0)), (5, .int (nI 0)), (4, .int (σ.1 0 (33 + r))), (3, .int (nI jb)), (2, .int (-1)), (0, .ref m), (1, .int (nI r))]) (dt tX3_runs 53 rfl) rfl rfl ?_
    refine J_iload X (dt tX3_runs 54 rfl) 3 rfl ?_
    refine J_if_eq X 109 (dt tX3_runs 55 rfl) (by decide) (fun _ => ?_) (fun c9 => absurd (rfl) c9)
    refine J_iconst X (-1) (dt tX3_runs 61 rfl) (by decide) ?_
    refine J_istore X (lv2 := [(9, .int (-1)), (8, .int (-1)), (7, .int (nI jb)), (6, .int (nI 0)), (5, .int (nI 0)), (4, .int (σ.1 0 (33 + r))), (3, .int (nI jb)), (2, .int (-1)), (0, .ref m), (1, .int (nI r))]) (dt tX3_runs 62 rfl) rfl rfl ?_
    refine J_aload_n X (dt tX3_runs 63 rfl) 8 rfl ?_
    refine M_get_all X (dt tX3_runs 64 rfl) ?_
    refine J_bipush X (nI 33) (dt tX3_runs 65 rfl) (by decide) ?_
    refine J_iload_n X (dt tX3_runs 66 rfl) 9 rfl ?_
    refine J_iaddN X (dt tX3_runs 67 rfl) ?_
    refine J_iload X (dt tX3_runs 68 rfl) 2 rfl ?_
    refine M_ast_all X hd (dt tX3_runs 69 rfl) (by omega) ?_
    refine J_aload_n X (dt tX3_runs 70 rfl) 8 rfl ?_
    refine M_get_all X (dt tX3_runs 71 rfl) ?_
    refine J_bipush X (nI 40) (dt tX3_runs 72 rfl) (by decide) ?_
    refine J_iload_n X (dt tX3_runs 73 rfl) 9 rfl ?_
    refine J_iaddN X (dt tX3_runs 74 rfl) ?_
    refine J_iload X (dt tX3_runs 75 rfl) 4 rfl ?_
    refine J_if_eq X 141 (dt tX3_runs 76 rfl) (by decide) (fun _ => ?_) (fun c9 => absurd (rfl) c9)
    refine J_iconst X (-1) (dt tX3_runs 79 rfl) (by decide) ?_
    refine M_ast_all X hd (dt tX3_runs 80 rfl) (by omega) ?_
    refine J_heap (h2 := mh h0 m ar (sA σ 0 (upd (upd (σ.1 0) (33 + r) (nI jb)) (40 + r) (-1)))) (congrArg (mh h0 m ar) (sA_sA _ _ _ _)) ?_
    refine J_aload_n X (dt tX3_runs 81 rfl) 8 rfl ?_
    refine M_get_all X (dt tX3_runs 82 rfl) ?_
    refine J_bipush X (nI 47) (dt tX3_runs 83 rfl) (by decide) ?_
    refine J_iload_n X (dt tX3_runs 84 rfl) 9 rfl ?_
    refine J_iaddN X (dt tX3_runs 85 rfl) ?_
    refine J_iload X (dt tX3_runs 86 rfl) 0 rfl ?_
    refine J_iconst X (-1) (dt tX3_runs 87 rfl) (by decide) ?_
    refine J_icmp_ne X 161 (dt tX3_runs 88 rfl) (by decide) (fun c9 => absurd (rfl) c9) (fun _ => ?_)
    refine J_iconst X (-1) (dt tX3_runs 89 rfl) (by decide) ?_
    refine J_goto X (tgt := 170) (dt tX3_runs 90 rfl) (by decide) ?_
    refine M_ast_all X hd (dt tX3_runs 97 rfl) (by omega) ?_
    refine J_heap (h2 := mh h0 m ar (sA σ 0 (upd (upd (upd (σ.1 0) (33 + r) (nI jb)) (40 + r) (-1)) (47 + r) (-1)))) (congrArg (mh h0 m ar) (sA_sA _ _ _ _)) ?_
    refine J_aload_n X (dt tX3_runs 98 rfl) 8 rfl ?_
    refine M_get_all X (dt tX3_runs 99 rfl) ?_
    refine J_bipush X (nI 54) (dt tX3_runs 100 rfl) (by decide) ?_
    refine J_iload_n X (dt tX3_runs 101 rfl) 9 rfl ?_
    refine J_iaddN X (dt tX3_runs 102 rfl) ?_
    refine J_dup2 X (dt tX3_runs 103 rfl) rfl rfl ?_
    refine M_ald_all X hd (dt tX3_runs 104 rfl) (by omega) ?_
    refine J_topi (show upd (upd (upd (σ.1 0) (33 + r) (nI jb)) (40 + r) (-1)) (47 + r) (-1) (54 + r) = (upd (upd (σ.1 0) (33 + r) (nI jb)) (40 + r) (-1)) (54 + r) from pk_un (by omega)) ?_
    refine J_topi (show upd (upd (σ.1 0) (33 + r) (nI jb)) (40 + r) (-1) (54 + r) = (upd (σ.1 0) (33 + r) (nI jb)) (54 + r) from pk_un (by omega)) ?_
    refine J_topi (show upd (σ.1 0) (33 + r) (nI jb) (54 + r) = (σ.1 0) (54 + r) from pk_un (by omega)) ?_
    refine J_iconst X (nI 1) (dt tX3_runs 105 rfl) (by decide) ?_
    refine J_iadd X (dt tX3_runs 106 rfl) ?_
    refine M_ast_all X hd (dt tX3_runs 107 rfl) (by omega) ?_
    refine J_heap (h2 := mh h0 m ar (sA σ 0 (upd (upd (upd (upd (σ.1 0) (33 + r) (nI jb)) (40 + r) (-1)) (47 + r) (-1)) (54 + r) ((σ.1 0 (54 + r)) + (nI 1))))) (congrArg (mh h0 m ar) (sA_sA _ _ _ _)) ?_
    refine J_aload_n X (dt tX3_runs 108 rfl) 8 rfl ?_
    refine M_get_all X (dt tX3_runs 109 rfl) ?_
    refine J_bipush X (nI 61) (dt tX3_runs 110 rfl) (by decide) ?_
    refine J_iload_n X (dt tX3_runs 111 rfl) 9 rfl ?_
    refine J_iaddN X (dt tX3_runs 112 rfl) ?_
    refine J_aload_n X (dt tX3_runs 113 rfl) 8 rfl ?_
    refine M_get_all X (dt tX3_runs 114 rfl) ?_
    refine J_iconst X (nI 0) (dt tX3_runs 115 rfl) (by decide) ?_
    refine M_ald_all X hd (dt tX3_runs 116 rfl) (by decide) ?_
    refine J_topi (show upd (upd (upd (upd (σ.1 0) (33 + r) (nI jb)) (40 + r) (-1)) (47 + r) (-1)) (54 + r) ((σ.1 0 (54 + r)) + (nI 1)) 0 = (upd (upd (upd (σ.1 0) (33 + r) (nI jb)) (40 + r) (-1)) (47 + r) (-1)) 0 from pk_un (by omega)) ?_
    refine J_topi (show upd (upd (upd (σ.1 0) (33 + r) (nI jb)) (40 + r) (-1)) (47 + r) (-1) 0 = (upd (upd (σ.1 0) (33 + r) (nI jb)) (40 + r) (-1)) 0 from pk_un (by omega)) ?_
    refine J_topi (show upd (upd (σ.1 0) (33 + r) (nI jb)) (40 + r) (-1) 0 = (upd (σ.1 0) (33 + r) (nI jb)) 0 from pk_un (by omega)) ?_
    refine J_topi (show upd (σ.1 0) (33 + r) (nI jb) 0 = (σ.1 0) 0 from pk_un (by omega)) ?_
    refine M_ast_all X hd (dt tX3_runs 117 rfl) (by omega) ?_
    refine J_heap (h2 := mh h0 m ar (sA σ 0 (upd (upd (upd (upd (upd (σ.1 0) (33 + r) (nI jb)) (40 + r) (-1)) (47 + r) (-1)) (54 + r) ((σ.1 0 (54 + r)) + (nI 1))) (61 + r) (σ.1 0 0)))) (congrArg (mh h0 m ar) (sA_sA _ _ _ _)) ?_
    refine J_iload X (dt tX3_runs 118 rfl) 2 rfl ?_
    refine J_iload X (dt tX3_runs 119 rfl) 5 rfl ?_
    have kj6 : ∀ v5 : Int32, v5 = (if (nI jb) = (σ.1 0 (33 + r)) then nI 0 else nI 1) → J Γ (mh h0 m ar (sA σ 0 (upd (upd (upd (upd (upd (σ.1 0) (33 + r) (nI jb)) (40 + r) (-1)) (47 + r) (-1)) (54 + r) ((σ.1 0 (54 + r)) + (nI 1))) (61 + r) (σ.1 0 0)))) 0 0 211 [(9, .int (-1)), (8, .int (-1)), (7, .int (nI jb)), (6, .int (nI 0)), (5, .int (nI 0)), (4, .int (σ.1 0 (33 + r))), (3, .int (nI jb)), (2, .int (-1)), (0, .ref m), (1, .int (nI r))] [.int v5] := by
      intro v5 ev5
      exact J_zret X rr (dt tX3_runs 124 rfl) (Nat.zero_le _) (Nat.zero_le _) (isB.nar (by subst_vars; exact isB_ite isB_0 isB_1)) (by subst_vars; exact m_runs_of (oa := none) (ob := some jb) (p := (some jb, none)) ((congrArg lo ha).trans lo_m1) ((congrArg lo hb).trans (lo_nI (by omega))) rfl rfl rfl)
    refine J_icmp_eq X 210 (dt tX3_runs 120 rfl) (by decide) (fun c4 => ?_) (fun c4 => ?_)
    · refine J_iconst X (nI 0) (dt tX3_runs 123 rfl) (by decide) ?_
      exact kj6 _ (if_pos c4).symm
    · refine J_iconst X (nI 1) (dt tX3_runs 121 rfl) (by decide) ?_
      refine J_goto X (tgt := 211) (dt tX3_runs 122 rfl) (by decide) ?_
      exact kj6 _ (if_neg c4).symm
  · refine J_aload_n X (dt tX3_runs 0 rfl) 0 rfl ?_
    refine J_iload_n X (dt tX3_runs 1 rfl) 1 rfl ?_
    refine J_iconst X (nI 0) (dt tX3_runs 2 rfl) (by decide) ?_
    refine M_callV (rest := []) X (dt tX3_runs 3 rfl) (c_racer l D hd σ r 0 (by omega) (by omega)) (lw_V q1917 q1919 qs41 q86 q1920) okX3_racer rfl rfl ⟨Nat.le_of_ble_eq_true rfl, Nat.le_of_ble_eq_true rfl⟩ rfl (Nat.le_of_ble_eq_true rfl) (Nat.zero_le _) (Nat.zero_le _) ?_
    refine J_topi ha ?_
    refine J_istore_n X (lv2 := [(2, .int (nI ja)), (0, .ref m), (1, .int (nI r))]) (dt tX3_runs 4 rfl) rfl rfl rfl ?_
    refine J_aload_n X (dt tX3_runs 5 rfl) 1 rfl ?_
    refine J_iload_n X (dt tX3_runs 6 rfl) 2 rfl ?_
    refine J_iconst X (nI 1) (dt tX3_runs 7 rfl) (by decide) ?_
    refine M_callV (rest := []) X (dt tX3_runs 8 rfl) (c_racer l D hd σ r 1 (by omega) (by omega)) (lw_V q1917 q1919 qs41 q86 q1920) okX3_racer rfl rfl ⟨Nat.le_of_ble_eq_true rfl, Nat.le_of_ble_eq_true rfl⟩ rfl (Nat.le_of_ble_eq_true rfl) (Nat.zero_le _) (Nat.zero_le _) ?_
    refine J_topi hb ?_
    refine J_istore_n X (lv2 := [(3, .int (-1)), (2, .int (nI ja)), (0, .ref m), (1, .int (nI r))]) (dt tX3_runs 9 rfl) rfl rfl rfl ?_
    refine J_aload_n X (dt tX3_runs 10 rfl) 2 rfl ?_
    refine M_get_all X (dt tX3_runs 11 rfl) ?_
    refine J_bipush X (nI 33) (dt tX3_runs 12 rfl) (by decide) ?_
    refine J_iload_n X (dt tX3_runs 13 rfl) 3 rfl ?_
    refine J_iaddN X (dt tX3_runs 14 rfl) ?_
    refine M_ald_all X hd (dt tX3_runs 15 rfl) (by omega) ?_
    refine J_istore X (lv2 := [(4, .int (σ.1 0 (33 + r))), (3, .int (-1)), (2, .int (nI ja)), (0, .ref m), (1, .int (nI r))]) (dt tX3_runs 16 rfl) rfl rfl ?_
    refine J_iload_n X (dt tX3_runs 17 rfl) 2 rfl ?_
    refine J_iconst X (-1) (dt tX3_runs 18 rfl) (by decide) ?_
    refine J_icmp_eq X 39 (dt tX3_runs 19 rfl) (by decide) (fun c9 => absurd c9 (nI_nm1 (by omega))) (fun _ => ?_)
    refine J_iload_n X (dt tX3_runs 20 rfl) 1 rfl ?_
    refine J_iconst X (-1) (dt tX3_runs 21 rfl) (by decide) ?_
    refine J_icmp_eq X 39 (dt tX3_runs 22 rfl) (by decide) (fun _ => ?_) (fun c9 => absurd (rfl) c9)
    refine J_iconst X (nI 0) (dt tX3_runs 25 rfl) (by decide) ?_
    refine J_istore X (lv2 := [(5, .int (nI 0)), (4, .int (σ.1 0 (33 + r))), (3, .int (-1)), (2, .int (nI ja)), (0, .ref m), (1, .int (nI r))]) (dt tX3_runs 26 rfl) rfl rfl ?_
    refine J_iload X (dt tX3_runs 27 rfl) 0 rfl ?_
    refine J_if_eq X 57 (dt tX3_runs 28 rfl) (by decide) (fun _ => ?_) (fun c9 => absurd (rfl) c9)
    refine J_iload_n X (dt tX3_runs 35 rfl) 3 rfl ?_
    refine J_iconst X (-1) (dt tX3_runs 36 rfl) (by decide) ?_
    refine J_icmp_eq X 66 (dt tX3_runs 37 rfl) (by decide) (fun c9 => absurd c9 (nI_nm1 (by omega))) (fun _ => ?_)
    refine J_iconst X (nI 1) (dt tX3_runs 38 rfl) (by decide) ?_
    refine J_goto X (tgt := 67) (dt tX3_runs 39 rfl) (by decide) ?_
    refine J_istore X (lv2 := [(6, .int (nI 1)), (5, .int (nI 0)), (4, .int (σ.1 0 (33 + r))), (3, .int (-1)), (2, .int (nI ja)), (0, .ref m), (1, .int (nI r))]) (dt tX3_runs 41 rfl) rfl rfl ?_
    refine J_iload X (dt tX3_runs 42 rfl) 0 rfl ?_
    refine J_if_eq X 78 (dt tX3_runs 43 rfl) (by decide) (fun c9 => absurd c9 ((by decide))) (fun _ => ?_)
    refine J_iload_n X (dt tX3_runs 44 rfl) 4 rfl ?_
    refine J_goto X (tgt := 79) (dt tX3_runs 45 rfl) (by decide) ?_
    refine J_istore X (lv2 := [(7, .int (nI ja)), (6, .int (nI 1)), (5, .int (nI 0)), (4, .int (σ.1 0 (33 + r))), (3, .int (-1)), (2, .int (nI ja)), (0, .ref m), (1, .int (nI r))]) (dt tX3_runs 47 rfl) rfl rfl ?_
    refine J_iload X (dt tX3_runs 48 rfl) 1 rfl ?_
    refine J_if_eq X 90 (dt tX3_runs 49 rfl) (by decide) (fun c9 => absurd c9 ((by decide))) (fun _ => ?_)
    refine J_iload_n X (dt tX3_runs 50 rfl) 4 rfl ?_
    refine J_goto X (tgt := 91) (dt tX3_runs 51 rfl) (by decide) ?_
    refine J_istore X (lv2 := [(8, .int (-1)), (7, .int (nI ja)), (6, .int (nI 1)), (5, .int (nI 0)), (4, .int (σ.1 0 (33 + r))), (3, .int (-1)), (2, .int (nI ja)), (0, .ref m), (1, .int (nI r))]) (dt tX3_runs 53 rfl) rfl rfl ?_
    refine J_iload X (dt tX3_runs 54 rfl) 3 rfl ?_
    refine J_if_eq X 109 (dt tX3_runs 55 rfl) (by decide) (fun _ => ?_) (fun c9 => absurd (rfl) c9)
    refine J_iconst X (-1) (dt tX3_runs 61 rfl) (by decide) ?_
    refine J_istore X (lv2 := [(9, .int (-1)), (8, .int (-1)), (7, .int (nI ja)), (6, .int (nI 1)), (5, .int (nI 0)), (4, .int (σ.1 0 (33 + r))), (3, .int (-1)), (2, .int (nI ja)), (0, .ref m), (1, .int (nI r))]) (dt tX3_runs 62 rfl) rfl rfl ?_
    refine J_aload_n X (dt tX3_runs 63 rfl) 8 rfl ?_
    refine M_get_all X (dt tX3_runs 64 rfl) ?_
    refine J_bipush X (nI 33) (dt tX3_runs 65 rfl) (by decide) ?_
    refine J_iload_n X (dt tX3_runs 66 rfl) 9 rfl ?_
    refine J_iaddN X (dt tX3_runs 67 rfl) ?_
    refine J_iload X (dt tX3_runs 68 rfl) 2 rfl ?_
    refine M_ast_all X hd (dt tX3_runs 69 rfl) (by omega) ?_
    refine J_aload_n X (dt tX3_runs 70 rfl) 8 rfl ?_
    refine M_get_all X (dt tX3_runs 71 rfl) ?_
    refine J_bipush X (nI 40) (dt tX3_runs 72 rfl) (by decide) ?_
    refine J_iload_n X (dt tX3_runs 73 rfl) 9 rfl ?_
    refine J_iaddN X (dt tX3_runs 74 rfl) ?_
    refine J_iload X (dt tX3_runs 75 rfl) 4 rfl ?_
    refine J_if_eq X 141 (dt tX3_runs 76 rfl) (by decide) (fun _ => ?_) (fun c9 => absurd (rfl) c9)
    refine J_iconst X (-1) (dt tX3_runs 79 rfl) (by decide) ?_
    refine M_ast_all X hd (dt tX3_runs 80 rfl) (by omega) ?_
    refine J_heap (h2 := mh h0 m ar (sA σ 0 (upd (upd (σ.1 0) (33 + r) (nI ja)) (40 + r) (-1)))) (congrArg (mh h0 m ar) (sA_sA _ _ _ _)) ?_
    refine J_aload_n X (dt tX3_runs 81 rfl) 8 rfl ?_
    refine M_get_all X (dt tX3_runs 82 rfl) ?_
    refine J_bipush X (nI 47) (dt tX3_runs 83 rfl) (by decide) ?_
    refine J_iload_n X (dt tX3_runs 84 rfl) 9 rfl ?_
    refine J_iaddN X (dt tX3_runs 85 rfl) ?_
    refine J_iload X (dt tX3_runs 86 rfl) 0 rfl ?_
    refine J_iconst X (-1) (dt tX3_runs 87 rfl) (by decide) ?_
    refine J_icmp_ne X 161 (dt tX3_runs 88 rfl) (by decide) (fun c9 => absurd (rfl) c9) (fun _ => ?_)
    refine J_iconst X (-1) (dt tX3_runs 89 rfl) (by decide) ?_
    refine J_goto X (tgt := 170) (dt tX3_runs 90 rfl) (by decide) ?_
    refine M_ast_all X hd (dt tX3_runs 97 rfl) (by omega) ?_
    refine J_heap (h2 := mh h0 m ar (sA σ 0 (upd (upd (upd (σ.1 0) (33 + r) (nI ja)) (40 + r) (-1)) (47 + r) (-1)))) (congrArg (mh h0 m ar) (sA_sA _ _ _ _)) ?_
    refine J_aload_n X (dt tX3_runs 98 rfl) 8 rfl ?_
    refine M_get_all X (dt tX3_runs 99 rfl) ?_
    refine J_bipush X (nI 54) (dt tX3_runs 100 rfl) (by decide) ?_
    refine J_iload_n X (dt tX3_runs 101 rfl) 9 rfl ?_
    refine J_iaddN X (dt tX3_runs 102 rfl) ?_
    refine J_dup2 X (dt tX3_runs 103 rfl) rfl rfl ?_
    refine M_ald_all X hd (dt tX3_runs 104 rfl) (by omega) ?_
    refine J_topi (show upd (upd (upd (σ.1 0) (33 + r) (nI ja)) (40 + r) (-1)) (47 + r) (-1) (54 + r) = (upd (upd (σ.1 0) (33 + r) (nI ja)) (40 + r) (-1)) (54 + r) from pk_un (by omega)) ?_
    refine J_topi (show upd (upd (σ.1 0) (33 + r) (nI ja)) (40 + r) (-1) (54 + r) = (upd (σ.1 0) (33 + r) (nI ja)) (54 + r) from pk_un (by omega)) ?_
    refine J_topi (show upd (σ.1 0) (33 + r) (nI ja) (54 + r) = (σ.1 0) (54 + r) from pk_un (by omega)) ?_
    refine J_iconst X (nI 1) (dt tX3_runs 105 rfl) (by decide) ?_
    refine J_iadd X (dt tX3_runs 106 rfl) ?_
    refine M_ast_all X hd (dt tX3_runs 107 rfl) (by omega) ?_
    refine J_heap (h2 := mh h0 m ar (sA σ 0 (upd (upd (upd (upd (σ.1 0) (33 + r) (nI ja)) (40 + r) (-1)) (47 + r) (-1)) (54 + r) ((σ.1 0 (54 + r)) + (nI 1))))) (congrArg (mh h0 m ar) (sA_sA _ _ _ _)) ?_
    refine J_aload_n X (dt tX3_runs 108 rfl) 8 rfl ?_
    refine M_get_all X (dt tX3_runs 109 rfl) ?_
    refine J_bipush X (nI 61) (dt tX3_runs 110 rfl) (by decide) ?_
    refine J_iload_n X (dt tX3_runs 111 rfl) 9 rfl ?_
    refine J_iaddN X (dt tX3_runs 112 rfl) ?_
    refine J_aload_n X (dt tX3_runs 113 rfl) 8 rfl ?_
    refine M_get_all X (dt tX3_runs 114 rfl) ?_
    refine J_iconst X (nI 0) (dt tX3_runs 115 rfl) (by decide) ?_
    refine M_ald_all X hd (dt tX3_runs 116 rfl) (by decide) ?_
    refine J_topi (show upd (upd (upd (upd (σ.1 0) (33 + r) (nI ja)) (40 + r) (-1)) (47 + r) (-1)) (54 + r) ((σ.1 0 (54 + r)) + (nI 1)) 0 = (upd (upd (upd (σ.1 0) (33 + r) (nI ja)) (40 + r) (-1)) (47 + r) (-1)) 0 from pk_un (by omega)) ?_
    refine J_topi (show upd (upd (upd (σ.1 0) (33 + r) (nI ja)) (40 + r) (-1)) (47 + r) (-1) 0 = (upd (upd (σ.1 0) (33 + r) (nI ja)) (40 + r) (-1)) 0 from pk_un (by omega)) ?_
    refine J_topi (show upd (upd (σ.1 0) (33 + r) (nI ja)) (40 + r) (-1) 0 = (upd (σ.1 0) (33 + r) (nI ja)) 0 from pk_un (by omega)) ?_
    refine J_topi (show upd (σ.1 0) (33 + r) (nI ja) 0 = (σ.1 0) 0 from pk_un (by omega)) ?_
    refine M_ast_all X hd (dt tX3_runs 117 rfl) (by omega) ?_
    refine J_heap (h2 := mh h0 m ar (sA σ 0 (upd (upd (upd (upd (upd (σ.1 0) (33 + r) (nI ja)) (40 + r) (-1)) (47 + r) (-1)) (54 + r) ((σ.1 0 (54 + r)) + (nI 1))) (61 + r) (σ.1 0 0)))) (congrArg (mh h0 m ar) (sA_sA _ _ _ _)) ?_
    refine J_iload X (dt tX3_runs 118 rfl) 2 rfl ?_
    refine J_iload X (dt tX3_runs 119 rfl) 5 rfl ?_
    have kj9 : ∀ v8 : Int32, v8 = (if (nI ja) = (σ.1 0 (33 + r)) then nI 0 else nI 1) → J Γ (mh h0 m ar (sA σ 0 (upd (upd (upd (upd (upd (σ.1 0) (33 + r) (nI ja)) (40 + r) (-1)) (47 + r) (-1)) (54 + r) ((σ.1 0 (54 + r)) + (nI 1))) (61 + r) (σ.1 0 0)))) 0 0 211 [(9, .int (-1)), (8, .int (-1)), (7, .int (nI ja)), (6, .int (nI 1)), (5, .int (nI 0)), (4, .int (σ.1 0 (33 + r))), (3, .int (-1)), (2, .int (nI ja)), (0, .ref m), (1, .int (nI r))] [.int v8] := by
      intro v8 ev8
      exact J_zret X rr (dt tX3_runs 124 rfl) (Nat.zero_le _) (Nat.zero_le _) (isB.nar (by subst_vars; exact isB_ite isB_0 isB_1)) (by subst_vars; exact m_runs_of (oa := some ja) (ob := none) (p := (some ja, none)) ((congrArg lo ha).trans (lo_nI (by omega))) ((congrArg lo hb).trans lo_m1) rfl rfl rfl)
    refine J_icmp_eq X 210 (dt tX3_runs 120 rfl) (by decide) (fun c7 => ?_) (fun c7 => ?_)
    · refine J_iconst X (nI 0) (dt tX3_runs 123 rfl) (by decide) ?_
      exact kj9 _ (if_pos c7).symm
    · refine J_iconst X (nI 1) (dt tX3_runs 121 rfl) (by decide) ?_
      refine J_goto X (tgt := 211) (dt tX3_runs 122 rfl) (by decide) ?_
      exact kj9 _ (if_neg c7).symm
  · by_cases hf : m_isAhead σ ja jb (nI 0) = 0
    · refine J_aload_n X (dt tX3_runs 0 rfl) 0 rfl ?_
      refine J_iload_n X (dt tX3_runs 1 rfl) 1 rfl ?_
      refine J_iconst X (nI 0) (dt tX3_runs 2 rfl) (by decide) ?_
      refine M_callV (rest := []) X (dt tX3_runs 3 rfl) (c_racer l D hd σ r 0 (by omega) (by omega)) (lw_V q1917 q1919 qs41 q86 q1920) okX3_racer rfl rfl ⟨Nat.le_of_ble_eq_true rfl, Nat.le_of_ble_eq_true rfl⟩ rfl (Nat.le_of_ble_eq_true rfl) (Nat.zero_le _) (Nat.zero_le _) ?_
      refine J_topi ha ?_
      refine J_istore_n X (lv2 := [(2, .int (nI ja)), (0, .ref m), (1, .int (nI r))]) (dt tX3_runs 4 rfl) rfl rfl rfl ?_
      refine J_aload_n X (dt tX3_runs 5 rfl) 1 rfl ?_
      refine J_iload_n X (dt tX3_runs 6 rfl) 2 rfl ?_
      refine J_iconst X (nI 1) (dt tX3_runs 7 rfl) (by decide) ?_
      refine M_callV (rest := []) X (dt tX3_runs 8 rfl) (c_racer l D hd σ r 1 (by omega) (by omega)) (lw_V q1917 q1919 qs41 q86 q1920) okX3_racer rfl rfl ⟨Nat.le_of_ble_eq_true rfl, Nat.le_of_ble_eq_true rfl⟩ rfl (Nat.le_of_ble_eq_true rfl) (Nat.zero_le _) (Nat.zero_le _) ?_
      refine J_topi hb ?_
      refine J_istore_n X (lv2 := [(3, .int (nI jb)), (2, .int (nI ja)), (0, .ref m), (1, .int (nI r))]) (dt tX3_runs 9 rfl) rfl rfl rfl ?_
      refine J_aload_n X (dt tX3_runs 10 rfl) 2 rfl ?_
      refine M_get_all X (dt tX3_runs 11 rfl) ?_
      refine J_bipush X (nI 33) (dt tX3_runs 12 rfl) (by decide) ?_
      refine J_iload_n X (dt tX3_runs 13 rfl) 3 rfl ?_
      refine J_iaddN X (dt tX3_runs 14 rfl) ?_
      refine M_ald_all X hd (dt tX3_runs 15 rfl) (by omega) ?_
      refine J_istore X (lv2 := [(4, .int (σ.1 0 (33 + r))), (3, .int (nI jb)), (2, .int (nI ja)), (0, .ref m), (1, .int (nI r))]) (dt tX3_runs 16 rfl) rfl rfl ?_
      refine J_iload_n X (dt tX3_runs 17 rfl) 2 rfl ?_
      refine J_iconst X (-1) (dt tX3_runs 18 rfl) (by decide) ?_
      refine J_icmp_eq X 39 (dt tX3_runs 19 rfl) (by decide) (fun c9 => absurd c9 (nI_nm1 (by omega))) (fun _ => ?_)
      refine J_iload_n X (dt tX3_runs 20 rfl) 1 rfl ?_
      refine J_iconst X (-1) (dt tX3_runs 21 rfl) (by decide) ?_
      refine J_icmp_eq X 39 (dt tX3_runs 22 rfl) (by decide) (fun c9 => absurd c9 (nI_nm1 (by omega))) (fun _ => ?_)
      refine J_iconst X (nI 1) (dt tX3_runs 23 rfl) (by decide) ?_
      refine J_goto X (tgt := 40) (dt tX3_runs 24 rfl) (by decide) ?_
      refine J_istore X (lv2 := [(5, .int (nI 1)), (4, .int (σ.1 0 (33 + r))), (3, .int (nI jb)), (2, .int (nI ja)), (0, .ref m), (1, .int (nI r))]) (dt tX3_runs 26 rfl) rfl rfl ?_
      refine J_iload X (dt tX3_runs 27 rfl) 0 rfl ?_
      refine J_if_eq X 57 (dt tX3_runs 28 rfl) (by decide) (fun c9 => absurd c9 ((by decide))) (fun _ => ?_)
      refine J_aload_n X (dt tX3_runs 29 rfl) 4 rfl ?_
      refine J_iload_n X (dt tX3_runs 30 rfl) 3 rfl ?_
      refine J_iload_n X (dt tX3_runs 31 rfl) 2 rfl ?_
      refine J_iconst X (nI 0) (dt tX3_runs 32 rfl) (by decide) ?_
      refine M_callV (rest := []) X (dt tX3_runs 33 rfl) (c_isAhead l D hd σ ja jb (nI 0) (by omega) (by omega)) (lw_V q1921 q1923 qs42 q86 q1924) okX3_isAhead rfl rfl ⟨Nat.le_of_ble_eq_true rfl, Nat.le_of_ble_eq_true rfl⟩ rfl (Nat.le_of_ble_eq_true rfl) (Nat.zero_le _) (Nat.zero_le _) ?_
      refine J_goto X (tgt := 67) (dt tX3_runs 34 rfl) (by decide) ?_
      refine J_istore X (lv2 := [(6, .int (m_isAhead σ ja jb (nI 0))), (5, .int (nI 1)), (4, .int (σ.1 0 (33 + r))), (3, .int (nI jb)), (2, .int (nI ja)), (0, .ref m), (1, .int (nI r))]) (dt tX3_runs 41 rfl) rfl rfl ?_
      refine J_iload X (dt tX3_runs 42 rfl) 0 rfl ?_
      refine J_if_eq X 78 (dt tX3_runs 43 rfl) (by decide) (fun _ => ?_) (fun c9 => absurd (hf) c9)
      refine J_iload_n X (dt tX3_runs 46 rfl) 3 rfl ?_
      refine J_istore X (lv2 := [(7, .int (nI jb)), (6, .int (m_isAhead σ ja jb (nI 0))), (5, .int (nI 1)), (4, .int (σ.1 0 (33 + r))), (3, .int (nI jb)), (2, .int (nI ja)), (0, .ref m), (1, .int (nI r))]) (dt tX3_runs 47 rfl) rfl rfl ?_
      refine J_iload X (dt tX3_runs 48 rfl) 1 rfl ?_
      refine J_if_eq X 90 (dt tX3_runs 49 rfl) (by decide) (fun _ => ?_) (fun c9 => absurd (hf) c9)
      refine J_iload_n X (dt tX3_runs 52 rfl) 5 rfl ?_
      refine J_istore X (lv2 := [(8, .int (nI ja)), (7, .int (nI jb)), (6, .int (m_isAhead σ ja jb (nI 0))), (5, .int (nI 1)), (4, .int (σ.1 0 (33 + r))), (3, .int (nI jb)), (2, .int (nI ja)), (0, .ref m), (1, .int (nI r))]) (dt tX3_runs 53 rfl) rfl rfl ?_
      refine J_iload X (dt tX3_runs 54 rfl) 3 rfl ?_
      refine J_if_eq X 109 (dt tX3_runs 55 rfl) (by decide) (fun c9 => absurd c9 ((by decide))) (fun _ => ?_)
      refine J_aload_n X (dt tX3_runs 56 rfl) 7 rfl ?_
      refine J_iload X (dt tX3_runs 57 rfl) 0 rfl ?_
      refine J_iload X (dt tX3_runs 58 rfl) 1 rfl ?_
      refine M_callV (rest := []) X (dt tX3_runs 59 rfl) (c_overtakes l D hd σ ja jb (by omega) (by omega)) (lw_V q1929 q1931 qs44 q86 q1932) okX3_overtakes rfl rfl ⟨Nat.le_of_ble_eq_true rfl, Nat.le_of_ble_eq_true rfl⟩ rfl (Nat.le_of_ble_eq_true rfl) (Nat.zero_le _) (Nat.zero_le _) ?_
      refine J_goto X (tgt := 110) (dt tX3_runs 60 rfl) (by decide) ?_
      refine J_istore X (lv2 := [(9, .int (m_overtakes σ ja jb)), (8, .int (nI ja)), (7, .int (nI jb)), (6, .int (m_isAhead σ ja jb (nI 0))), (5, .int (nI 1)), (4, .int (σ.1 0 (33 + r))), (3, .int (nI jb)), (2, .int (nI ja)), (0, .ref m), (1, .int (nI r))]) (dt tX3_runs 62 rfl) rfl rfl ?_
      refine J_aload_n X (dt tX3_runs 63 rfl) 8 rfl ?_
      refine M_get_all X (dt tX3_runs 64 rfl) ?_
      refine J_bipush X (nI 33) (dt tX3_runs 65 rfl) (by decide) ?_
      refine J_iload_n X (dt tX3_runs 66 rfl) 9 rfl ?_
      refine J_iaddN X (dt tX3_runs 67 rfl) ?_
      refine J_iload X (dt tX3_runs 68 rfl) 2 rfl ?_
      refine M_ast_all X hd (dt tX3_runs 69 rfl) (by omega) ?_
      refine J_aload_n X (dt tX3_runs 70 rfl) 8 rfl ?_
      refine M_get_all X (dt tX3_runs 71 rfl) ?_
      refine J_bipush X (nI 40) (dt tX3_runs 72 rfl) (by decide) ?_
      refine J_iload_n X (dt tX3_runs 73 rfl) 9 rfl ?_
      refine J_iaddN X (dt tX3_runs 74 rfl) ?_
      refine J_iload X (dt tX3_runs 75 rfl) 4 rfl ?_
      refine J_if_eq X 141 (dt tX3_runs 76 rfl) (by decide) (fun c9 => absurd c9 ((by decide))) (fun _ => ?_)
      refine J_iload X (dt tX3_runs 77 rfl) 1 rfl ?_
      refine J_goto X (tgt := 142) (dt tX3_runs 78 rfl) (by decide) ?_
      refine M_ast_all X hd (dt tX3_runs 80 rfl) (by omega) ?_
      refine J_heap (h2 := mh h0 m ar (sA σ 0 (upd (upd (σ.1 0) (33 + r) (nI jb)) (40 + r) (nI ja)))) (congrArg (mh h0 m ar) (sA_sA _ _ _ _)) ?_
      refine J_aload_n X (dt tX3_runs 81 rfl) 8 rfl ?_
      refine M_get_all X (dt tX3_runs 82 rfl) ?_
      refine J_bipush X (nI 47) (dt tX3_runs 83 rfl) (by decide) ?_
      refine J_iload_n X (dt tX3_runs 84 rfl) 9 rfl ?_
      refine J_iaddN X (dt tX3_runs 85 rfl) ?_
      refine J_iload X (dt tX3_runs 86 rfl) 0 rfl ?_
      refine J_iconst X (-1) (dt tX3_runs 87 rfl) (by decide) ?_
      have kj12 : ∀ v11 : Int32, v11 = (if (m_overtakes σ ja jb) = (-1) then (-1) else (σ.1 0 0) + (m_overtakes σ ja jb)) → J Γ (mh h0 m ar (sA σ 0 (upd (upd (σ.1 0) (33 + r) (nI jb)) (40 + r) (nI ja)))) 0 0 170 [(9, .int (m_overtakes σ ja jb)), (8, .int (nI ja)), (7, .int (nI jb)), (6, .int (m_isAhead σ ja jb (nI 0))), (5, .int (nI 1)), (4, .int (σ.1 0 (33 + r))), (3, .int (nI jb)), (2, .int (nI ja)), (0, .ref m), (1, .int (nI r))] [.int v11, .int (nI (47 + r)), .ref (ar 0)] := by
        intro v11 ev11
        refine M_ast_all X hd (dt tX3_runs 97 rfl) (by omega) ?_
        refine J_heap (h2 := mh h0 m ar (sA σ 0 (upd (upd (upd (σ.1 0) (33 + r) (nI jb)) (40 + r) (nI ja)) (47 + r) v11))) (congrArg (mh h0 m ar) (sA_sA _ _ _ _)) ?_
        refine J_aload_n X (dt tX3_runs 98 rfl) 8 rfl ?_
        refine M_get_all X (dt tX3_runs 99 rfl) ?_
        refine J_bipush X (nI 54) (dt tX3_runs 100 rfl) (by decide) ?_
        refine J_iload_n X (dt tX3_runs 101 rfl) 9 rfl ?_
        refine J_iaddN X (dt tX3_runs 102 rfl) ?_
        refine J_dup2 X (dt tX3_runs 103 rfl) rfl rfl ?_
        refine M_ald_all X hd (dt tX3_runs 104 rfl) (by omega) ?_
        refine J_topi (show upd (upd (upd (σ.1 0) (33 + r) (nI jb)) (40 + r) (nI ja)) (47 + r) v11 (54 + r) = (upd (upd (σ.1 0) (33 + r) (nI jb)) (40 + r) (nI ja)) (54 + r) from pk_un (by omega)) ?_
        refine J_topi (show upd (upd (σ.1 0) (33 + r) (nI jb)) (40 + r) (nI ja) (54 + r) = (upd (σ.1 0) (33 + r) (nI jb)) (54 + r) from pk_un (by omega)) ?_
        refine J_topi (show upd (σ.1 0) (33 + r) (nI jb) (54 + r) = (σ.1 0) (54 + r) from pk_un (by omega)) ?_
        refine J_iconst X (nI 1) (dt tX3_runs 105 rfl) (by decide) ?_
        refine J_iadd X (dt tX3_runs 106 rfl) ?_
        refine M_ast_all X hd (dt tX3_runs 107 rfl) (by omega) ?_
        refine J_heap (h2 := mh h0 m ar (sA σ 0 (upd (upd (upd (upd (σ.1 0) (33 + r) (nI jb)) (40 + r) (nI ja)) (47 + r) v11) (54 + r) ((σ.1 0 (54 + r)) + (nI 1))))) (congrArg (mh h0 m ar) (sA_sA _ _ _ _)) ?_
        refine J_aload_n X (dt tX3_runs 108 rfl) 8 rfl ?_
        refine M_get_all X (dt tX3_runs 109 rfl) ?_
        refine J_bipush X (nI 61) (dt tX3_runs 110 rfl) (by decide) ?_
        refine J_iload_n X (dt tX3_runs 111 rfl) 9 rfl ?_
        refine J_iaddN X (dt tX3_runs 112 rfl) ?_
        refine J_aload_n X (dt tX3_runs 113 rfl) 8 rfl ?_
        refine M_get_all X (dt tX3_runs 114 rfl) ?_
        refine J_iconst X (nI 0) (dt tX3_runs 115 rfl) (by decide) ?_
        refine M_ald_all X hd (dt tX3_runs 116 rfl) (by decide) ?_
        refine J_topi (show upd (upd (upd (upd (σ.1 0) (33 + r) (nI jb)) (40 + r) (nI ja)) (47 + r) v11) (54 + r) ((σ.1 0 (54 + r)) + (nI 1)) 0 = (upd (upd (upd (σ.1 0) (33 + r) (nI jb)) (40 + r) (nI ja)) (47 + r) v11) 0 from pk_un (by omega)) ?_
        refine J_topi (show upd (upd (upd (σ.1 0) (33 + r) (nI jb)) (40 + r) (nI ja)) (47 + r) v11 0 = (upd (upd (σ.1 0) (33 + r) (nI jb)) (40 + r) (nI ja)) 0 from pk_un (by omega)) ?_
        refine J_topi (show upd (upd (σ.1 0) (33 + r) (nI jb)) (40 + r) (nI ja) 0 = (upd (σ.1 0) (33 + r) (nI jb)) 0 from pk_un (by omega)) ?_
        refine J_topi (show upd (σ.1 0) (33 + r) (nI jb) 0 = (σ.1 0) 0 from pk_un (by omega)) ?_
        refine M_ast_all X hd (dt tX3_runs 117 rfl) (by omega) ?_
        refine J_heap (h2 := mh h0 m ar (sA σ 0 (upd (upd (upd (upd (upd (σ.1 0) (33 + r) (nI jb)) (40 + r) (nI ja)) (47 + r) v11) (54 + r) ((σ.1 0 (54 + r)) + (nI 1))) (61 + r) (σ.1 0 0)))) (congrArg (mh h0 m ar) (sA_sA _ _ _ _)) ?_
        refine J_iload X (dt tX3_runs 118 rfl) 2 rfl ?_
        refine J_iload X (dt tX3_runs 119 rfl) 5 rfl ?_
        have kj15 : ∀ v14 : Int32, v14 = (if (nI jb) = (σ.1 0 (33 + r)) then nI 0 else nI 1) → J Γ (mh h0 m ar (sA σ 0 (upd (upd (upd (upd (upd (σ.1 0) (33 + r) (nI jb)) (40 + r) (nI ja)) (47 + r) v11) (54 + r) ((σ.1 0 (54 + r)) + (nI 1))) (61 + r) (σ.1 0 0)))) 0 0 211 [(9, .int (m_overtakes σ ja jb)), (8, .int (nI ja)), (7, .int (nI jb)), (6, .int (m_isAhead σ ja jb (nI 0))), (5, .int (nI 1)), (4, .int (σ.1 0 (33 + r))), (3, .int (nI jb)), (2, .int (nI ja)), (0, .ref m), (1, .int (nI r))] [.int v14] := by
          intro v14 ev14
          exact J_zret X rr (dt tX3_runs 124 rfl) (Nat.zero_le _) (Nat.zero_le _) (isB.nar (by subst_vars; exact isB_ite isB_0 isB_1)) (by subst_vars; exact m_runs_of (oa := some ja) (ob := some jb) (p := (some jb, some ja)) ((congrArg lo ha).trans (lo_nI (by omega))) ((congrArg lo hb).trans (lo_nI (by omega))) (if_pos hf) rfl rfl)
        refine J_icmp_eq X 210 (dt tX3_runs 120 rfl) (by decide) (fun c13 => ?_) (fun c13 => ?_)
        · refine J_iconst X (nI 0) (dt tX3_runs 123 rfl) (by decide) ?_
          exact kj15 _ (if_pos c13).symm
        · refine J_iconst X (nI 1) (dt tX3_runs 121 rfl) (by decide) ?_
          refine J_goto X (tgt := 211) (dt tX3_runs 122 rfl) (by decide) ?_
          exact kj15 _ (if_neg c13).symm
      refine J_icmp_ne X 161 (dt tX3_runs 88 rfl) (by decide) (fun c10 => ?_) (fun c10 => ?_)
      · refine J_aload_n X (dt tX3_runs 91 rfl) 8 rfl ?_
        refine M_get_all X (dt tX3_runs 92 rfl) ?_
        refine J_iconst X (nI 0) (dt tX3_runs 93 rfl) (by decide) ?_
        refine M_ald_all X hd (dt tX3_runs 94 rfl) (by decide) ?_
        refine J_topi (show upd (upd (σ.1 0) (33 + r) (nI jb)) (40 + r) (nI ja) 0 = (upd (σ.1 0) (33 + r) (nI jb)) 0 from pk_un (by omega)) ?_
        refine J_topi (show upd (σ.1 0) (33 + r) (nI jb) 0 = (σ.1 0) 0 from pk_un (by omega)) ?_
        refine J_iload X (dt tX3_runs 95 rfl) 0 rfl ?_
        refine J_iadd X (dt tX3_runs 96 rfl) ?_
        exact kj12 _ (if_neg c10).symm
      · refine J_iconst X (-1) (dt tX3_runs 89 rfl) (by decide) ?_
        refine J_goto X (tgt := 170) (dt tX3_runs 90 rfl) (by decide) ?_
        exact kj12 _ (if_pos c10).symm
    · refine J_aload_n X (dt tX3_runs 0 rfl) 0 rfl ?_
      refine J_iload_n X (dt tX3_runs 1 rfl) 1 rfl ?_
      refine J_iconst X (nI 0) (dt tX3_runs 2 rfl) (by decide) ?_
      refine M_callV (rest := []) X (dt tX3_runs 3 rfl) (c_racer l D hd σ r 0 (by omega) (by omega)) (lw_V q1917 q1919 qs41 q86 q1920) okX3_racer rfl rfl ⟨Nat.le_of_ble_eq_true rfl, Nat.le_of_ble_eq_true rfl⟩ rfl (Nat.le_of_ble_eq_true rfl) (Nat.zero_le _) (Nat.zero_le _) ?_
      refine J_topi ha ?_
      refine J_istore_n X (lv2 := [(2, .int (nI ja)), (0, .ref m), (1, .int (nI r))]) (dt tX3_runs 4 rfl) rfl rfl rfl ?_
      refine J_aload_n X (dt tX3_runs 5 rfl) 1 rfl ?_
      refine J_iload_n X (dt tX3_runs 6 rfl) 2 rfl ?_
      refine J_iconst X (nI 1) (dt tX3_runs 7 rfl) (by decide) ?_
      refine M_callV (rest := []) X (dt tX3_runs 8 rfl) (c_racer l D hd σ r 1 (by omega) (by omega)) (lw_V q1917 q1919 qs41 q86 q1920) okX3_racer rfl rfl ⟨Nat.le_of_ble_eq_true rfl, Nat.le_of_ble_eq_true rfl⟩ rfl (Nat.le_of_ble_eq_true rfl) (Nat.zero_le _) (Nat.zero_le _) ?_
      refine J_topi hb ?_
      refine J_istore_n X (lv2 := [(3, .int (nI jb)), (2, .int (nI ja)), (0, .ref m), (1, .int (nI r))]) (dt tX3_runs 9 rfl) rfl rfl rfl ?_
      refine J_aload_n X (dt tX3_runs 10 rfl) 2 rfl ?_
      refine M_get_all X (dt tX3_runs 11 rfl) ?_
      refine J_bipush X (nI 33) (dt tX3_runs 12 rfl) (by decide) ?_
      refine J_iload_n X (dt tX3_runs 13 rfl) 3 rfl ?_
      refine J_iaddN X (dt tX3_runs 14 rfl) ?_
      refine M_ald_all X hd (dt tX3_runs 15 rfl) (by omega) ?_
      refine J_istore X (lv2 := [(4, .int (σ.1 0 (33 + r))), (3, .int (nI jb)), (2, .int (nI ja)), (0, .ref m), (1, .int (nI r))]) (dt tX3_runs 16 rfl) rfl rfl ?_
      refine J_iload_n X (dt tX3_runs 17 rfl) 2 rfl ?_
      refine J_iconst X (-1) (dt tX3_runs 18 rfl) (by decide) ?_
      refine J_icmp_eq X 39 (dt tX3_runs 19 rfl) (by decide) (fun c9 => absurd c9 (nI_nm1 (by omega))) (fun _ => ?_)
      refine J_iload_n X (dt tX3_runs 20 rfl) 1 rfl ?_
      refine J_iconst X (-1) (dt tX3_runs 21 rfl) (by decide) ?_
      refine J_icmp_eq X 39 (dt tX3_runs 22 rfl) (by decide) (fun c9 => absurd c9 (nI_nm1 (by omega))) (fun _ => ?_)
      refine J_iconst X (nI 1) (dt tX3_runs 23 rfl) (by decide) ?_
      refine J_goto X (tgt := 40) (dt tX3_runs 24 rfl) (by decide) ?_
      refine J_istore X (lv2 := [(5, .int (nI 1)), (4, .int (σ.1 0 (33 + r))), (3, .int (nI jb)), (2, .int (nI ja)), (0, .ref m), (1, .int (nI r))]) (dt tX3_runs 26 rfl) rfl rfl ?_
      refine J_iload X (dt tX3_runs 27 rfl) 0 rfl ?_
      refine J_if_eq X 57 (dt tX3_runs 28 rfl) (by decide) (fun c9 => absurd c9 ((by decide))) (fun _ => ?_)
      refine J_aload_n X (dt tX3_runs 29 rfl) 4 rfl ?_
      refine J_iload_n X (dt tX3_runs 30 rfl) 3 rfl ?_
      refine J_iload_n X (dt tX3_runs 31 rfl) 2 rfl ?_
      refine J_iconst X (nI 0) (dt tX3_runs 32 rfl) (by decide) ?_
      refine M_callV (rest := []) X (dt tX3_runs 33 rfl) (c_isAhead l D hd σ ja jb (nI 0) (by omega) (by omega)) (lw_V q1921 q1923 qs42 q86 q1924) okX3_isAhead rfl rfl ⟨Nat.le_of_ble_eq_true rfl, Nat.le_of_ble_eq_true rfl⟩ rfl (Nat.le_of_ble_eq_true rfl) (Nat.zero_le _) (Nat.zero_le _) ?_
      refine J_goto X (tgt := 67) (dt tX3_runs 34 rfl) (by decide) ?_
      refine J_istore X (lv2 := [(6, .int (m_isAhead σ ja jb (nI 0))), (5, .int (nI 1)), (4, .int (σ.1 0 (33 + r))), (3, .int (nI jb)), (2, .int (nI ja)), (0, .ref m), (1, .int (nI r))]) (dt tX3_runs 41 rfl) rfl rfl ?_
      refine J_iload X (dt tX3_runs 42 rfl) 0 rfl ?_
      refine J_if_eq X 78 (dt tX3_runs 43 rfl) (by decide) (fun c9 => absurd c9 (hf)) (fun _ => ?_)
      refine J_iload_n X (dt tX3_runs 44 rfl) 4 rfl ?_
      refine J_goto X (tgt := 79) (dt tX3_runs 45 rfl) (by decide) ?_
      refine J_istore X (lv2 := [(7, .int (nI ja)), (6, .int (m_isAhead σ ja jb (nI 0))), (5, .int (nI 1)), (4, .int (σ.1 0 (33 + r))), (3, .int (nI jb)), (2, .int (nI ja)), (0, .ref m), (1, .int (nI r))]) (dt tX3_runs 47 rfl) rfl rfl ?_
      refine J_iload X (dt tX3_runs 48 rfl) 1 rfl ?_
      refine J_if_eq X 90 (dt tX3_runs 49 rfl) (by decide) (fun c9 => absurd c9 (hf)) (fun _ => ?_)
      refine J_iload_n X (dt tX3_runs 50 rfl) 4 rfl ?_
      refine J_goto X (tgt := 91) (dt tX3_runs 51 rfl) (by decide) ?_
      refine J_istore X (lv2 := [(8, .int (nI jb)), (7, .int (nI ja)), (6, .int (m_isAhead σ ja jb (nI 0))), (5, .int (nI 1)), (4, .int (σ.1 0 (33 + r))), (3, .int (nI jb)), (2, .int (nI ja)), (0, .ref m), (1, .int (nI r))]) (dt tX3_runs 53 rfl) rfl rfl ?_
      refine J_iload X (dt tX3_runs 54 rfl) 3 rfl ?_
      refine J_if_eq X 109 (dt tX3_runs 55 rfl) (by decide) (fun c9 => absurd c9 ((by decide))) (fun _ => ?_)
      refine J_aload_n X (dt tX3_runs 56 rfl) 7 rfl ?_
      refine J_iload X (dt tX3_runs 57 rfl) 0 rfl ?_
      refine J_iload X (dt tX3_runs 58 rfl) 1 rfl ?_
      refine M_callV (rest := []) X (dt tX3_runs 59 rfl) (c_overtakes l D hd σ jb ja (by omega) (by omega)) (lw_V q1929 q1931 qs44 q86 q1932) okX3_overtakes rfl rfl ⟨Nat.le_of_ble_eq_true rfl, Nat.le_of_ble_eq_true rfl⟩ rfl (Nat.le_of_ble_eq_true rfl) (Nat.zero_le _) (Nat.zero_le _) ?_
      refine J_goto X (tgt := 110) (dt tX3_runs 60 rfl) (by decide) ?_
      refine J_istore X (lv2 := [(9, .int (m_overtakes σ jb ja)), (8, .int (nI jb)), (7, .int (nI ja)), (6, .int (m_isAhead σ ja jb (nI 0))), (5, .int (nI 1)), (4, .int (σ.1 0 (33 + r))), (3, .int (nI jb)), (2, .int (nI ja)), (0, .ref m), (1, .int (nI r))]) (dt tX3_runs 62 rfl) rfl rfl ?_
      refine J_aload_n X (dt tX3_runs 63 rfl) 8 rfl ?_
      refine M_get_all X (dt tX3_runs 64 rfl) ?_
      refine J_bipush X (nI 33) (dt tX3_runs 65 rfl) (by decide) ?_
      refine J_iload_n X (dt tX3_runs 66 rfl) 9 rfl ?_
      refine J_iaddN X (dt tX3_runs 67 rfl) ?_
      refine J_iload X (dt tX3_runs 68 rfl) 2 rfl ?_
      refine M_ast_all X hd (dt tX3_runs 69 rfl) (by omega) ?_
      refine J_aload_n X (dt tX3_runs 70 rfl) 8 rfl ?_
      refine M_get_all X (dt tX3_runs 71 rfl) ?_
      refine J_bipush X (nI 40) (dt tX3_runs 72 rfl) (by decide) ?_
      refine J_iload_n X (dt tX3_runs 73 rfl) 9 rfl ?_
      refine J_iaddN X (dt tX3_runs 74 rfl) ?_
      refine J_iload X (dt tX3_runs 75 rfl) 4 rfl ?_
      refine J_if_eq X 141 (dt tX3_runs 76 rfl) (by decide) (fun c9 => absurd c9 ((by decide))) (fun _ => ?_)
      refine J_iload X (dt tX3_runs 77 rfl) 1 rfl ?_
      refine J_goto X (tgt := 142) (dt tX3_runs 78 rfl) (by decide) ?_
      refine M_ast_all X hd (dt tX3_runs 80 rfl) (by omega) ?_
      refine J_heap (h2 := mh h0 m ar (sA σ 0 (upd (upd (σ.1 0) (33 + r) (nI ja)) (40 + r) (nI jb)))) (congrArg (mh h0 m ar) (sA_sA _ _ _ _)) ?_
      refine J_aload_n X (dt tX3_runs 81 rfl) 8 rfl ?_
      refine M_get_all X (dt tX3_runs 82 rfl) ?_
      refine J_bipush X (nI 47) (dt tX3_runs 83 rfl) (by decide) ?_
      refine J_iload_n X (dt tX3_runs 84 rfl) 9 rfl ?_
      refine J_iaddN X (dt tX3_runs 85 rfl) ?_
      refine J_iload X (dt tX3_runs 86 rfl) 0 rfl ?_
      refine J_iconst X (-1) (dt tX3_runs 87 rfl) (by decide) ?_
      have kj18 : ∀ v17 : Int32, v17 = (if (m_overtakes σ jb ja) = (-1) then (-1) else (σ.1 0 0) + (m_overtakes σ jb ja)) → J Γ (mh h0 m ar (sA σ 0 (upd (upd (σ.1 0) (33 + r) (nI ja)) (40 + r) (nI jb)))) 0 0 170 [(9, .int (m_overtakes σ jb ja)), (8, .int (nI jb)), (7, .int (nI ja)), (6, .int (m_isAhead σ ja jb (nI 0))), (5, .int (nI 1)), (4, .int (σ.1 0 (33 + r))), (3, .int (nI jb)), (2, .int (nI ja)), (0, .ref m), (1, .int (nI r))] [.int v17, .int (nI (47 + r)), .ref (ar 0)] := by
        intro v17 ev17
        refine M_ast_all X hd (dt tX3_runs 97 rfl) (by omega) ?_
        refine J_heap (h2 := mh h0 m ar (sA σ 0 (upd (upd (upd (σ.1 0) (33 + r) (nI ja)) (40 + r) (nI jb)) (47 + r) v17))) (congrArg (mh h0 m ar) (sA_sA _ _ _ _)) ?_
        refine J_aload_n X (dt tX3_runs 98 rfl) 8 rfl ?_
        refine M_get_all X (dt tX3_runs 99 rfl) ?_
        refine J_bipush X (nI 54) (dt tX3_runs 100 rfl) (by decide) ?_
        refine J_iload_n X (dt tX3_runs 101 rfl) 9 rfl ?_
        refine J_iaddN X (dt tX3_runs 102 rfl) ?_
        refine J_dup2 X (dt tX3_runs 103 rfl) rfl rfl ?_
        refine M_ald_all X hd (dt tX3_runs 104 rfl) (by omega) ?_
        refine J_topi (show upd (upd (upd (σ.1 0) (33 + r) (nI ja)) (40 + r) (nI jb)) (47 + r) v17 (54 + r) = (upd (upd (σ.1 0) (33 + r) (nI ja)) (40 + r) (nI jb)) (54 + r) from pk_un (by omega)) ?_
        refine J_topi (show upd (upd (σ.1 0) (33 + r) (nI ja)) (40 + r) (nI jb) (54 + r) = (upd (σ.1 0) (33 + r) (nI ja)) (54 + r) from pk_un (by omega)) ?_
        refine J_topi (show upd (σ.1 0) (33 + r) (nI ja) (54 + r) = (σ.1 0) (54 + r) from pk_un (by omega)) ?_
        refine J_iconst X (nI 1) (dt tX3_runs 105 rfl) (by decide) ?_
        refine J_iadd X (dt tX3_runs 106 rfl) ?_
        refine M_ast_all X hd (dt tX3_runs 107 rfl) (by omega) ?_
        refine J_heap (h2 := mh h0 m ar (sA σ 0 (upd (upd (upd (upd (σ.1 0) (33 + r) (nI ja)) (40 + r) (nI jb)) (47 + r) v17) (54 + r) ((σ.1 0 (54 + r)) + (nI 1))))) (congrArg (mh h0 m ar) (sA_sA _ _ _ _)) ?_
        refine J_aload_n X (dt tX3_runs 108 rfl) 8 rfl ?_
        refine M_get_all X (dt tX3_runs 109 rfl) ?_
        refine J_bipush X (nI 61) (dt tX3_runs 110 rfl) (by decide) ?_
        refine J_iload_n X (dt tX3_runs 111 rfl) 9 rfl ?_
        refine J_iaddN X (dt tX3_runs 112 rfl) ?_
        refine J_aload_n X (dt tX3_runs 113 rfl) 8 rfl ?_
        refine M_get_all X (dt tX3_runs 114 rfl) ?_
        refine J_iconst X (nI 0) (dt tX3_runs 115 rfl) (by decide) ?_
        refine M_ald_all X hd (dt tX3_runs 116 rfl) (by decide) ?_
        refine J_topi (show upd (upd (upd (upd (σ.1 0) (33 + r) (nI ja)) (40 + r) (nI jb)) (47 + r) v17) (54 + r) ((σ.1 0 (54 + r)) + (nI 1)) 0 = (upd (upd (upd (σ.1 0) (33 + r) (nI ja)) (40 + r) (nI jb)) (47 + r) v17) 0 from pk_un (by omega)) ?_
        refine J_topi (show upd (upd (upd (σ.1 0) (33 + r) (nI ja)) (40 + r) (nI jb)) (47 + r) v17 0 = (upd (upd (σ.1 0) (33 + r) (nI ja)) (40 + r) (nI jb)) 0 from pk_un (by omega)) ?_
        refine J_topi (show upd (upd (σ.1 0) (33 + r) (nI ja)) (40 + r) (nI jb) 0 = (upd (σ.1 0) (33 + r) (nI ja)) 0 from pk_un (by omega)) ?_
        refine J_topi (show upd (σ.1 0) (33 + r) (nI ja) 0 = (σ.1 0) 0 from pk_un (by omega)) ?_
        refine M_ast_all X hd (dt tX3_runs 117 rfl) (by omega) ?_
        refine J_heap (h2 := mh h0 m ar (sA σ 0 (upd (upd (upd (upd (upd (σ.1 0) (33 + r) (nI ja)) (40 + r) (nI jb)) (47 + r) v17) (54 + r) ((σ.1 0 (54 + r)) + (nI 1))) (61 + r) (σ.1 0 0)))) (congrArg (mh h0 m ar) (sA_sA _ _ _ _)) ?_
        refine J_iload X (dt tX3_runs 118 rfl) 2 rfl ?_
        refine J_iload X (dt tX3_runs 119 rfl) 5 rfl ?_
        have kj21 : ∀ v20 : Int32, v20 = (if (nI ja) = (σ.1 0 (33 + r)) then nI 0 else nI 1) → J Γ (mh h0 m ar (sA σ 0 (upd (upd (upd (upd (upd (σ.1 0) (33 + r) (nI ja)) (40 + r) (nI jb)) (47 + r) v17) (54 + r) ((σ.1 0 (54 + r)) + (nI 1))) (61 + r) (σ.1 0 0)))) 0 0 211 [(9, .int (m_overtakes σ jb ja)), (8, .int (nI jb)), (7, .int (nI ja)), (6, .int (m_isAhead σ ja jb (nI 0))), (5, .int (nI 1)), (4, .int (σ.1 0 (33 + r))), (3, .int (nI jb)), (2, .int (nI ja)), (0, .ref m), (1, .int (nI r))] [.int v20] := by
          intro v20 ev20
          exact J_zret X rr (dt tX3_runs 124 rfl) (Nat.zero_le _) (Nat.zero_le _) (isB.nar (by subst_vars; exact isB_ite isB_0 isB_1)) (by subst_vars; exact m_runs_of (oa := some ja) (ob := some jb) (p := (some ja, some jb)) ((congrArg lo ha).trans (lo_nI (by omega))) ((congrArg lo hb).trans (lo_nI (by omega))) (if_neg hf) rfl rfl)
        refine J_icmp_eq X 210 (dt tX3_runs 120 rfl) (by decide) (fun c19 => ?_) (fun c19 => ?_)
        · refine J_iconst X (nI 0) (dt tX3_runs 123 rfl) (by decide) ?_
          exact kj21 _ (if_pos c19).symm
        · refine J_iconst X (nI 1) (dt tX3_runs 121 rfl) (by decide) ?_
          refine J_goto X (tgt := 211) (dt tX3_runs 122 rfl) (by decide) ?_
          exact kj21 _ (if_neg c19).symm
      refine J_icmp_ne X 161 (dt tX3_runs 88 rfl) (by decide) (fun c16 => ?_) (fun c16 => ?_)
      · refine J_aload_n X (dt tX3_runs 91 rfl) 8 rfl ?_
        refine M_get_all X (dt tX3_runs 92 rfl) ?_
        refine J_iconst X (nI 0) (dt tX3_runs 93 rfl) (by decide) ?_
        refine M_ald_all X hd (dt tX3_runs 94 rfl) (by decide) ?_
        refine J_topi (show upd (upd (σ.1 0) (33 + r) (nI ja)) (40 + r) (nI jb) 0 = (upd (σ.1 0) (33 + r) (nI ja)) 0 from pk_un (by omega)) ?_
        refine J_topi (show upd (σ.1 0) (33 + r) (nI ja) 0 = (σ.1 0) 0 from pk_un (by omega)) ?_
        refine J_iload X (dt tX3_runs 95 rfl) 0 rfl ?_
        refine J_iadd X (dt tX3_runs 96 rfl) ?_
        exact kj18 _ (if_neg c16).symm
      · refine J_iconst X (-1) (dt tX3_runs 89 rfl) (by decide) ?_
        refine J_goto X (tgt := 170) (dt tX3_runs 90 rfl) (by decide) ?_
        exact kj18 _ (if_pos c16).symm
/-- what holds of the reference's numbers all along: winners are lanes or none, how many leaders are kept -/
def WF (σ : MS) : Prop := (∀ r, r < 7 → isL (σ.1 0 (33 + r))) ∧ ∃ kp, kp ≤ 8 ∧ σ.1 0 84 = nI kp
def kpo (σ : MS) : Nat := (σ.1 0 84).toNatClampNeg
theorem WF.kp {σ : MS} (h : WF σ) : σ.1 0 84 = nI (kpo σ) := by
  obtain ⟨-, kp, hk, e⟩ := h
  unfold kpo
  rw [e, nI_clamp (by omega)]
theorem WF.kle {σ : MS} (h : WF σ) : kpo σ ≤ 8 := by
  obtain ⟨-, kp, hk, e⟩ := h
  unfold kpo
  rw [e, nI_clamp (by omega)]
  exact hk
theorem WF.ro {σ : MS} (h : WF σ) {r : Nat} (hr : r < 7) : isL (m_racer σ r 0) ∧ isL (m_racer σ r 1) := by
  have key : ∀ w, w < 2 → isL (m_racer σ r w) := by
    intro w hw
    unfold m_racer
    by_cases h3 : r ≤ 3
    · rw [if_pos h3]
      split
      · exact Or.inl rfl
      · exact Or.inr ⟨_, by omega, rfl⟩
    · rw [if_neg h3, show 33 + 2 * (r - 4) + w = 33 + (2 * (r - 4) + w) by omega]
      exact h.1 _ (by omega)
  exact ⟨key 0 (by omega), key 1 (by omega)⟩
theorem rW_lt {σ : MS} {oa ob : Option Nat} (ha : ∀ j, oa = some j → j < 8) (hb : ∀ j, ob = some j → j < 8) : (∀ j, (rW σ oa ob).1 = some j → j < 8) ∧ ∀ j, (rW σ oa ob).2 = some j → j < 8 := by
  cases oa with
  | none => exact ⟨hb, fun j z => by cases z⟩
  | some i =>
    cases ob with
    | none => exact ⟨ha, fun j z => by cases z⟩
    | some j =>
      unfold rW
      dsimp only
      split
      · exact ⟨hb, ha⟩
      · exact ⟨ha, hb⟩
theorem WF.rp {σ : MS} (h : WF σ) {r : Nat} (hr : r < 7) : isL (on (rP σ r).1) ∧ isL (on (rP σ r).2) := by
  obtain ⟨h1, h2⟩ := h.ro hr
  obtain ⟨g1, g2⟩ := rW_lt (σ := σ) (fun j z => h1.lt z) (fun j z => h2.lt z)
  exact ⟨isL_on g1, isL_on g2⟩
/-- cells of the row that a race run leaves -/
theorem m_runsA_out {σ : MS} {r : Nat} {p : Option Nat × Option Nat} {j : Nat} (h : j < 33 ∨ 68 ≤ j) (hr : r < 7) : m_runsA σ r p j = σ.1 0 j := by
  unfold m_runsA
  rw [pk_un (by omega), pk_un (by omega), pk_un (by omega), pk_un (by omega), pk_un (by omega)]
theorem m_runsA_win {σ : MS} {r i : Nat} {p : Option Nat × Option Nat} (hr : r < 7) (hi : i < 7) : m_runsA σ r p (33 + i) = if i = r then on p.1 else σ.1 0 (33 + i) := by
  unfold m_runsA
  rw [pk_un (by omega), pk_un (by omega), pk_un (by omega), pk_un (by omega)]
  by_cases h : i = r
  · rw [if_pos h, h, pk_us]
  · rw [if_neg h, pk_un (by omega)]
theorem WF.runs {σ : MS} (h : WF σ) {r : Nat} (hr : r < 7) : WF (m_runsT σ r) := by
  refine ⟨fun i hi => ?_, ?_⟩
  · show isL (m_runsA σ r (rP σ r) (33 + i))
    rw [m_runsA_win hr hi]
    split
    · exact (h.rp hr).1
    · exact h.1 i hi
  · obtain ⟨-, kp, hk, e⟩ := h
    exact ⟨kp, hk, by show m_runsA σ r (rP σ r) 84 = _; rw [m_runsA_out (Or.inr (by omega)) hr]; exact e⟩
theorem m_ap0_out {a : Nat → Int32} {c j : Nat} (h : j < 68 ∨ 86 ≤ j) (hc : c ≤ 7) : m_ap0 a c j = a j := by
  unfold m_ap0
  rw [pk_un (by omega), pk_un (by omega), pk_un (by omega), pk_un (by omega)]
theorem m_append_out {a : Nat → Int32} {kp j : Nat} (h : j < 68 ∨ 86 ≤ j) (hk : kp ≤ 8) : m_append a kp j = a j := by
  unfold m_append
  split
  · rw [m_ap0_out h (by omega), pk_un (by omega), m_sh_out a (by omega) 7 (by omega)]
  · rw [m_ap0_out h (by omega)]
theorem m_ap0_84 {a : Nat → Int32} {c : Nat} : m_ap0 a c 84 = nI (c + 1) := by
  unfold m_ap0
  rw [pk_un (by omega), pk_us]
theorem WF.puts {σ : MS} (h : WF σ) : WF (m_putsT σ (kpo σ)) := by
  unfold m_putsT
  split
  · exact h
  · have hk := h.kle
    refine ⟨fun i hi => ?_, ?_⟩
    · show isL (m_append (σ.1 0) (kpo σ) (33 + i))
      rw [m_append_out (by omega) hk]
      exact h.1 i hi
    · show ∃ kp, kp ≤ 8 ∧ m_append (σ.1 0) (kpo σ) 84 = nI kp
      unfold m_append
      split
      · exact ⟨8, by omega, m_ap0_84⟩
      · exact ⟨kpo σ + 1, by omega, m_ap0_84⟩
def m_forS (σ : MS) (j : Nat) : MS := m_runsT (m_runsT (m_runsT σ (j / 2)) (4 + j / 4)) 6
theorem WF.forS {σ : MS} (h : WF σ) {j : Nat} (hj : j < 8) : WF (m_forS σ j) := ((h.runs (by omega)).runs (by omega)).runs (by omega)
def m_forR (σ : MS) (j : Nat) : Int32 := m_putsR (m_forS σ j) (kpo (m_forS σ j))
def m_forT (σ : MS) (j : Nat) : MS := m_putsT (m_forS σ j) (kpo (m_forS σ j))
theorem WF.forT {σ : MS} (h : WF σ) {j : Nat} (hj : j < 8) : WF (m_forT σ j) := (h.forS hj).puts
abbrev cX3_runsFor : ByteArray := prog_12_method_19_code
def yX3_runsFor : MethodName := ⟨RX3, "runsFor", "(I)Z"⟩
theorem tX3_runsFor : dtab cX3_runsFor [(0, .aload_n 0, 1, 1), (1, .iload_n 1, 1, 2), (2, .iconst 2, 1, 3), (3, .idiv, 1, 4), (4, .invokevirtual 68, 3, 7), (7, .istore_n 2, 1, 8), (8, .aload_n 0, 1, 9), (9, .iconst 4, 1, 10), (10, .iload_n 1, 1, 11), (11, .iconst 4, 1, 12), (12, .idiv, 1, 13), (13, .iadd, 1, 14), (14, .invokevirtual 68, 3, 17), (17, .istore_n 3, 1, 18), (18, .aload_n 0, 1, 19), (19, .bipush 6, 2, 21), (21, .invokevirtual 68, 3, 24), (24, .istore 4, 2, 26), (26, .aload_n 0, 1, 27), (27, .invokevirtual 71, 3, 30), (30, .ireturn, 1, 31)] := by unfold dtab; decide +kernel
theorem okX3_runsFor : okY yX3_runsFor 1 := by decide +kernel
set_option maxHeartbeats 4000000 in
theorem c_runsFor (l : Launch) (D : va_G) {h0 : PH} {m : Nat} {ar : Nat → Nat} (hd : md m ar) (σ : MS) (j : Nat) (hj : j < 8) (hW : WF σ) : Ct l D yX3_runsFor cX3_runsFor 5 (some .boolean) (rmM 3 75) [.ref m, .int (nI j)] (mh h0 m ar σ) (PM h0 m ar (some (.int (m_forR σ j))) (m_forT σ j)) := by
  refine Ct.of (by decide) rfl (fun Γ X rr hmn => ?_)
  have X : Cx l D cX3_runsFor RX3 5 (rmM 3 75) Γ := X
  show J Γ (mh h0 m ar σ) 0 0 0 [(0, .ref m), (1, .int (nI j))] []
  refine J_aload_n X (dt tX3_runsFor 0 rfl) 0 rfl ?_
  refine J_iload_n X (dt tX3_runsFor 1 rfl) 1 rfl ?_
  refine J_iconst X (nI 2) (dt tX3_runsFor 2 rfl) (by decide) ?_
  refine J_idivN X (dt tX3_runsFor 3 rfl) (by omega) (by omega) (by omega) ?_
  refine M_callV (rest := []) X (dt tX3_runsFor 4 rfl) (c_runs l D hd σ (j / 2) (by omega) (WF.ro hW (by omega))) (lw_V q1913 q1915 qs40 q86 q1916) okX3_runs rfl rfl ⟨Nat.le_of_ble_eq_true rfl, Nat.le_of_ble_eq_true rfl⟩ rfl (Nat.le_of_ble_eq_true rfl) (Nat.zero_le _) (Nat.zero_le _) ?_
  refine J_istore_n X (lv2 := [(2, .int (m_runsR σ (j / 2))), (0, .ref m), (1, .int (nI j))]) (dt tX3_runsFor 5 rfl) rfl rfl rfl ?_
  refine J_aload_n X (dt tX3_runsFor 6 rfl) 1 rfl ?_
  refine J_iconst X (nI 4) (dt tX3_runsFor 7 rfl) (by decide) ?_
  refine J_iload_n X (dt tX3_runsFor 8 rfl) 2 rfl ?_
  refine J_iconst X (nI 4) (dt tX3_runsFor 9 rfl) (by decide) ?_
  refine J_idivN X (dt tX3_runsFor 10 rfl) (by omega) (by omega) (by omega) ?_
  refine J_iaddN X (dt tX3_runsFor 11 rfl) ?_
  refine M_callV (rest := []) X (dt tX3_runsFor 12 rfl) (c_runs l D hd (m_runsT σ (j / 2)) (4 + (j / 4)) (by omega) (WF.ro (hW.runs (by omega)) (by omega))) (lw_V q1913 q1915 qs40 q86 q1916) okX3_runs rfl rfl ⟨Nat.le_of_ble_eq_true rfl, Nat.le_of_ble_eq_true rfl⟩ rfl (Nat.le_of_ble_eq_true rfl) (Nat.zero_le _) (Nat.zero_le _) ?_
  refine J_istore_n X (lv2 := [(3, .int (m_runsR (m_runsT σ (j / 2)) (4 + (j / 4)))), (2, .int (m_runsR σ (j / 2))), (0, .ref m), (1, .int (nI j))]) (dt tX3_runsFor 13 rfl) rfl rfl rfl ?_
  refine J_aload_n X (dt tX3_runsFor 14 rfl) 2 rfl ?_
  refine J_bipush X (nI 6) (dt tX3_runsFor 15 rfl) (by decide) ?_
  refine M_callV (rest := []) X (dt tX3_runsFor 16 rfl) (c_runs l D hd (m_runsT (m_runsT σ (j / 2)) (4 + (j / 4))) 6 (by omega) (WF.ro ((hW.runs (by omega)).runs (by omega)) (by omega))) (lw_V q1913 q1915 qs40 q86 q1916) okX3_runs rfl rfl ⟨Nat.le_of_ble_eq_true rfl, Nat.le_of_ble_eq_true rfl⟩ rfl (Nat.le_of_ble_eq_true rfl) (Nat.zero_le _) (Nat.zero_le _) ?_
  refine J_istore X (lv2 := [(4, .int (m_runsR (m_runsT (m_runsT σ (j / 2)) (4 + (j / 4))) 6)), (3, .int (m_runsR (m_runsT σ (j / 2)) (4 + (j / 4)))), (2, .int (m_runsR σ (j / 2))), (0, .ref m), (1, .int (nI j))]) (dt tX3_runsFor 17 rfl) rfl rfl ?_
  refine J_aload_n X (dt tX3_runsFor 18 rfl) 3 rfl ?_
  refine M_callV (rest := []) X (dt tX3_runsFor 19 rfl) (c_putsDown l D hd (m_runsT (m_runsT (m_runsT σ (j / 2)) (4 + (j / 4))) 6) (kpo (m_runsT (m_runsT (m_runsT σ (j / 2)) (4 + (j / 4))) 6)) (WF.kp (hW.forS hj)) (WF.kle (hW.forS hj))) (lw_V q1933 q1935 qs45 q86 q1936) okX3_putsDown rfl rfl ⟨Nat.le_of_ble_eq_true rfl, Nat.le_of_ble_eq_true rfl⟩ rfl (Nat.le_of_ble_eq_true rfl) (Nat.zero_le _) (Nat.zero_le _) ?_
  exact J_zret X rr (dt tX3_runsFor 20 rfl) (Nat.zero_le _) (Nat.zero_le _) (isB.nar (m_putsR_B _ _)) ⟨rfl, rfl⟩
