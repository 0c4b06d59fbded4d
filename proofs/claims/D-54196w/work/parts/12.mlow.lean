/-! printed by gen/modelm.py -/
set_option maxRecDepth 100000
theorem q86 : (Jvm.Cond.initialized "LeadRacesModel") ∈ lw_all := lw_g (lw_at lw_m1 18 rfl) rfl
theorem q1892 : (Jvm.Cond.constantLong "LeadRacesModel" (33 : Nat) (7 : Int64)) ∈ lw_all := lw_g (lw_at lw_m8 144 rfl) rfl
theorem q1893 : (Jvm.Cond.methodLink "LeadRacesModel" (35 : Nat) ({ cls := "LeadRacesModel", name := "in", desc := "(JJJ)Z" } : Jvm.MethodName)) ∈ lw_all := lw_g (lw_at lw_m8 145 rfl) rfl
theorem q1894 : (Jvm.Cond.static ({ cls := "LeadRacesModel", name := "in", desc := "(JJJ)Z" } : Jvm.MethodName)) ∈ lw_all := lw_g (lw_at lw_m8 146 rfl) rfl
theorem q1895 : (Jvm.Cond.code ({ cls := "LeadRacesModel", name := "in", desc := "(JJJ)Z" } : Jvm.MethodName) prog_12_method_3_code (6 : Nat) (Option.some Jvm.ClassFile.FieldType.boolean)) ∈ lw_all := lw_g (lw_at lw_m8 147 rfl) rfl
theorem q1901 : (Jvm.Cond.constantLong "LeadRacesModel" (39 : Nat) (-99 : Int64)) ∈ lw_all := lw_g (lw_at lw_m8 153 rfl) rfl
theorem q1902 : (Jvm.Cond.constantLong "LeadRacesModel" (41 : Nat) (99 : Int64)) ∈ lw_all := lw_g (lw_at lw_m8 154 rfl) rfl
theorem q1904 : (Jvm.Cond.methodLink "LeadRacesModel" (47 : Nat) ({ cls := "LeadRacesModel", name := "has", desc := "(I)Z" } : Jvm.MethodName)) ∈ lw_all := lw_g (lw_at lw_m8 156 rfl) rfl
theorem q1906 : (Jvm.Cond.instanceMethod ({ cls := "LeadRacesModel", name := "has", desc := "(I)Z" } : Jvm.MethodName)) ∈ lw_all := lw_g (lw_at lw_m8 158 rfl) rfl
theorem q1907 : (Jvm.Cond.code ({ cls := "LeadRacesModel", name := "has", desc := "(I)Z" } : Jvm.MethodName) prog_12_method_9_code (2 : Nat) (Option.some Jvm.ClassFile.FieldType.boolean)) ∈ lw_all := lw_g (lw_at lw_m8 159 rfl) rfl
theorem q1925 : (Jvm.Cond.methodLink "LeadRacesModel" (43 : Nat) ({ cls := "LeadRacesModel", name := "placeBehind", desc := "(II)I" } : Jvm.MethodName)) ∈ lw_all := lw_g (lw_at lw_m8 177 rfl) rfl
theorem q1927 : (Jvm.Cond.instanceMethod ({ cls := "LeadRacesModel", name := "placeBehind", desc := "(II)I" } : Jvm.MethodName)) ∈ lw_all := lw_g (lw_at lw_m8 179 rfl) rfl
theorem q1928 : (Jvm.Cond.code ({ cls := "LeadRacesModel", name := "placeBehind", desc := "(II)I" } : Jvm.MethodName) prog_12_method_11_code (3 : Nat) (Option.some Jvm.ClassFile.FieldType.int)) ∈ lw_all := lw_g (lw_at lw_m8 180 rfl) rfl
theorem q1937 : (Jvm.Cond.methodLink "LeadRacesModel" (61 : Nat) ({ cls := "LeadRacesModel", name := "leaderNow", desc := "()I" } : Jvm.MethodName)) ∈ lw_all := lw_g (lw_at lw_m8 189 rfl) rfl
theorem q1939 : (Jvm.Cond.instanceMethod ({ cls := "LeadRacesModel", name := "leaderNow", desc := "()I" } : Jvm.MethodName)) ∈ lw_all := lw_g (lw_at lw_m8 191 rfl) rfl
theorem q1940 : (Jvm.Cond.code ({ cls := "LeadRacesModel", name := "leaderNow", desc := "()I" } : Jvm.MethodName) prog_12_method_16_code (1 : Nat) (Option.some Jvm.ClassFile.FieldType.int)) ∈ lw_all := lw_g (lw_at lw_m8 192 rfl) rfl
theorem q1941 : (Jvm.Cond.methodLink "LeadRacesModel" (65 : Nat) ({ cls := "LeadRacesModel", name := "leaderBefore", desc := "()I" } : Jvm.MethodName)) ∈ lw_all := lw_g (lw_at lw_m8 193 rfl) rfl
theorem q1943 : (Jvm.Cond.instanceMethod ({ cls := "LeadRacesModel", name := "leaderBefore", desc := "()I" } : Jvm.MethodName)) ∈ lw_all := lw_g (lw_at lw_m8 195 rfl) rfl
theorem q1944 : (Jvm.Cond.code ({ cls := "LeadRacesModel", name := "leaderBefore", desc := "()I" } : Jvm.MethodName) prog_12_method_17_code (1 : Nat) (Option.some Jvm.ClassFile.FieldType.int)) ∈ lw_all := lw_g (lw_at lw_m8 196 rfl) rfl
/-! the reference's small methods -/
def m_in (v lo hi : Int64) : Int32 := if lg_cmp v lo < 0 then 0 else if 0 < lg_cmp v hi then 0 else 1
theorem m_in_B (v lo hi : Int64) : isB (m_in v lo hi) := isB_ite isB_0 (isB_ite isB_0 isB_1)
abbrev cX3_in : ByteArray := prog_12_method_3_code
def yX3_in : MethodName := ⟨RX3, "in", "(JJJ)Z"⟩
theorem tX3_in : dtab cX3_in [(0, .lload_n 0, 1, 1), (1, .lload_n 2, 1, 2), (2, .lcmp, 1, 3), (3, .ifCond .lt 14, 3, 6), (6, .lload_n 0, 1, 7), (7, .lload 4, 2, 9), (9, .lcmp, 1, 10), (10, .ifCond .gt 7, 3, 13), (13, .iconst 1, 1, 14), (14, .goto 4, 3, 17), (17, .iconst 0, 1, 18), (18, .ireturn, 1, 19)] := by unfold dtab; decide +kernel
theorem okX3_in : okY yX3_in 3 := by decide +kernel
set_option maxHeartbeats 4000000 in
theorem c_in (l : Launch) (D : va_G) (h : PH) (a : Int64) (lo : Int64) (hi : Int64)  : Ct l D yX3_in cX3_in 6 (some .boolean) (rmM 0 0) [.long a, .long lo, .long hi] h (PS h (some (.int (m_in a lo hi)))) := by
  refine Ct.of (by decide) rfl (fun Γ X rr hmn => ?_)
  have X : Cx l D cX3_in RX3 6 (rmM 0 0) Γ := X
  show J Γ h 0 0 0 [(0, .long a), (2, .long lo), (4, .long hi)] []
  refine J_lload_n X (dt tX3_in 0 rfl) 0 rfl ?_
  refine J_lload_n X (dt tX3_in 1 rfl) 1 rfl ?_
  refine J_lcmp X (dt tX3_in 2 rfl) ?_
  have kj4 : ∀ v3 : Int32, v3 = (if (lg_cmp a lo) < 0 then nI 0 else if 0 < (lg_cmp a hi) then nI 0 else nI 1) → J Γ h 0 0 18 [(0, .long a), (2, .long lo), (4, .long hi)] [.int v3] := by
    intro v3 ev3
    exact J_zret X rr (dt tX3_in 11 rfl) (Nat.zero_le _) (Nat.zero_le _) (isB.nar (by subst_vars; exact m_in_B a lo hi)) (by subst_vars; exact ⟨rfl, rfl⟩)
  refine J_if_lt X 17 (dt tX3_in 3 rfl) (by decide) (fun c1 => ?_) (fun c1 => ?_)
  · refine J_iconst X (nI 0) (dt tX3_in 10 rfl) (by decide) ?_
    exact kj4 _ (if_pos c1).symm
  · refine J_lload_n X (dt tX3_in 4 rfl) 0 rfl ?_
    refine J_lload X (dt tX3_in 5 rfl) 2 rfl ?_
    refine J_lcmp X (dt tX3_in 6 rfl) ?_
    refine J_if_gt X 17 (dt tX3_in 7 rfl) (by decide) (fun c2 => ?_) (fun c2 => ?_)
    · refine J_iconst X (nI 0) (dt tX3_in 10 rfl) (by decide) ?_
      exact kj4 _ ((if_neg c1).trans (if_pos c2)).symm
    · refine J_iconst X (nI 1) (dt tX3_in 8 rfl) (by decide) ?_
      refine J_goto X (tgt := 18) (dt tX3_in 9 rfl) (by decide) ?_
      exact kj4 _ ((if_neg c1).trans (if_neg c2)).symm
def m_isLane (x : Int32) : Int32 := m_in x.toInt64 0 7
def m_isSpeed (x : Int32) : Int32 := m_in x.toInt64 (-99) 99
abbrev cX3_isLane : ByteArray := prog_12_method_7_code
def yX3_isLane : MethodName := ⟨RX3, "isLane", "(I)Z"⟩
theorem tX3_isLane : dtab cX3_isLane [(0, .iload_n 0, 1, 1), (1, .i2l, 1, 2), (2, .lconst 0, 1, 3), (3, .ldc2_w 33, 3, 6), (6, .invokestatic 35, 3, 9), (9, .ireturn, 1, 10)] := by unfold dtab; decide +kernel
theorem okX3_isLane : okY yX3_isLane 1 := by decide +kernel
set_option maxHeartbeats 4000000 in
theorem c_isLane (l : Launch) (D : va_G) (h : PH) (x : Int32)  : Ct l D yX3_isLane cX3_isLane 1 (some .boolean) (rmM 1 25) [.int x] h (PS h (some (.int (m_isLane x)))) := by
  refine Ct.of (by decide) rfl (fun Γ X rr hmn => ?_)
  have X : Cx l D cX3_isLane RX3 1 (rmM 1 25) Γ := X
  show J Γ h 0 0 0 [(0, .int x)] []
  refine J_iload_n X (dt tX3_isLane 0 rfl) 0 rfl ?_
  refine J_i2l X (dt tX3_isLane 1 rfl) ?_
  refine J_lconst X 0 (dt tX3_isLane 2 rfl) (by decide) ?_
  refine J_ldc2 X (dt tX3_isLane 3 rfl) q1892 ?_
  refine S_callS (rest := []) X (dt tX3_isLane 4 rfl) (c_in l D _ x.toInt64 0 (7) ) (lw_S q1893 q1894 q86 q1895) okX3_in rfl ⟨Nat.le_of_ble_eq_true rfl, Nat.le_of_ble_eq_true rfl⟩ rfl (Nat.le_of_ble_eq_true rfl) (Nat.zero_le _) (Nat.zero_le _) ?_
  exact J_zret X rr (dt tX3_isLane 5 rfl) (Nat.zero_le _) (Nat.zero_le _) (isB.nar (m_in_B _ _ _)) ⟨rfl, rfl⟩
abbrev cX3_isSpeed : ByteArray := prog_12_method_8_code
def yX3_isSpeed : MethodName := ⟨RX3, "isSpeed", "(I)Z"⟩
theorem tX3_isSpeed : dtab cX3_isSpeed [(0, .iload_n 0, 1, 1), (1, .i2l, 1, 2), (2, .ldc2_w 39, 3, 5), (5, .ldc2_w 41, 3, 8), (8, .invokestatic 35, 3, 11), (11, .ireturn, 1, 12)] := by unfold dtab; decide +kernel
theorem okX3_isSpeed : okY yX3_isSpeed 1 := by decide +kernel
set_option maxHeartbeats 4000000 in
theorem c_isSpeed (l : Launch) (D : va_G) (h : PH) (x : Int32)  : Ct l D yX3_isSpeed cX3_isSpeed 1 (some .boolean) (rmM 1 25) [.int x] h (PS h (some (.int (m_isSpeed x)))) := by
  refine Ct.of (by decide) rfl (fun Γ X rr hmn => ?_)
  have X : Cx l D cX3_isSpeed RX3 1 (rmM 1 25) Γ := X
  show J Γ h 0 0 0 [(0, .int x)] []
  refine J_iload_n X (dt tX3_isSpeed 0 rfl) 0 rfl ?_
  refine J_i2l X (dt tX3_isSpeed 1 rfl) ?_
  refine J_ldc2 X (dt tX3_isSpeed 2 rfl) q1901 ?_
  refine J_ldc2 X (dt tX3_isSpeed 3 rfl) q1902 ?_
  refine S_callS (rest := []) X (dt tX3_isSpeed 4 rfl) (c_in l D _ x.toInt64 (-99) (99) ) (lw_S q1893 q1894 q86 q1895) okX3_in rfl ⟨Nat.le_of_ble_eq_true rfl, Nat.le_of_ble_eq_true rfl⟩ rfl (Nat.le_of_ble_eq_true rfl) (Nat.zero_le _) (Nat.zero_le _) ?_
  exact J_zret X rr (dt tX3_isSpeed 5 rfl) (Nat.zero_le _) (Nat.zero_le _) (isB.nar (m_in_B _ _ _)) ⟨rfl, rfl⟩
def m_has (σ : MS) (j : Nat) : Int32 := if σ.1 0 (1 + j) = 1 then 1 else 0
theorem m_has_B (σ : MS) (j : Nat) : isB (m_has σ j) := isB_ite isB_1 isB_0
abbrev cX3_has : ByteArray := prog_12_method_9_code
def yX3_has : MethodName := ⟨RX3, "has", "(I)Z"⟩
theorem tX3_has : dtab cX3_has [(0, .aload_n 0, 1, 1), (1, .getfield 7, 3, 4), (4, .iconst 1, 1, 5), (5, .iload_n 1, 1, 6), (6, .iadd, 1, 7), (7, .iaload, 1, 8), (8, .iconst 1, 1, 9), (9, .if_icmp .ne 7, 3, 12), (12, .iconst 1, 1, 13), (13, .goto 4, 3, 16), (16, .iconst 0, 1, 17), (17, .ireturn, 1, 18)] := by unfold dtab; decide +kernel
theorem okX3_has : okY yX3_has 1 := by decide +kernel
set_option maxHeartbeats 4000000 in
theorem c_has (l : Launch) (D : va_G) {h0 : PH} {m : Nat} {ar : Nat → Nat} (hd : md m ar) (σ : MS) (j : Nat) (hj : j < 8) : Ct l D yX3_has cX3_has 2 (some .boolean) (rmM 0 0) [.ref m, .int (nI j)] (mh h0 m ar σ) (PM h0 m ar (some (.int (m_has σ j))) σ) := by
  refine Ct.of (by decide) rfl (fun Γ X rr hmn => ?_)
  have X : Cx l D cX3_has RX3 2 (rmM 0 0) Γ := X
  show J Γ (mh h0 m ar σ) 0 0 0 [(0, .ref m), (1, .int (nI j))] []
  refine J_aload_n X (dt tX3_has 0 rfl) 0 rfl ?_
  refine M_get_all X (dt tX3_has 1 rfl) ?_
  refine J_iconst X (nI 1) (dt tX3_has 2 rfl) (by decide) ?_
  refine J_iload_n X (dt tX3_has 3 rfl) 1 rfl ?_
  refine J_iaddN X (dt tX3_has 4 rfl) ?_
  refine M_ald_all X hd (dt tX3_has 5 rfl) (by omega) ?_
  refine J_iconst X (nI 1) (dt tX3_has 6 rfl) (by decide) ?_
  have kj3 : ∀ v2 : Int32, v2 = (if (σ.1 0 (1 + j)) = (nI 1) then nI 1 else nI 0) → J Γ (mh h0 m ar σ) 0 0 17 [(0, .ref m), (1, .int (nI j))] [.int v2] := by
    intro v2 ev2
    exact J_zret X rr (dt tX3_has 11 rfl) (Nat.zero_le _) (Nat.zero_le _) (isB.nar (by subst_vars; exact m_has_B σ j)) (by subst_vars; exact ⟨rfl, rfl⟩)
  refine J_icmp_ne X 16 (dt tX3_has 7 rfl) (by decide) (fun c1 => ?_) (fun c1 => ?_)
  · refine J_iconst X (nI 0) (dt tX3_has 10 rfl) (by decide) ?_
    exact kj3 _ (if_neg c1).symm
  · refine J_iconst X (nI 1) (dt tX3_has 8 rfl) (by decide) ?_
    refine J_goto X (tgt := 17) (dt tX3_has 9 rfl) (by decide) ?_
    exact kj3 _ (if_pos c1).symm
def m_keep (σ : MS) : MS := sA σ 1 (cpn (σ.1 0) (σ.1 1) 88)
def m_give (σ : MS) : MS := sA σ 0 (cpn (σ.1 1) (σ.1 0) 88)
abbrev cX3_keep : ByteArray := prog_12_method_4_code
def yX3_keep : MethodName := ⟨RX3, "keep", "()V"⟩
theorem tX3_keep : dtab cX3_keep [(0, .iconst 0, 1, 1), (1, .istore_n 1, 1, 2), (2, .iload_n 1, 1, 3), (3, .bipush 88, 2, 5), (5, .if_icmp .ge 21, 3, 8), (8, .aload_n 0, 1, 9), (9, .getfield 13, 3, 12), (12, .iload_n 1, 1, 13), (13, .aload_n 0, 1, 14), (14, .getfield 7, 3, 17), (17, .iload_n 1, 1, 18), (18, .iaload, 1, 19), (19, .iastore, 1, 20), (20, .iinc 1 1, 3, 23), (23, .goto (-21), 3, 26), (26, .return_, 1, 27)] := by unfold dtab; decide +kernel
theorem okX3_keep : okY yX3_keep 0 := by decide +kernel
set_option maxHeartbeats 4000000 in
theorem c_keep (l : Launch) (D : va_G) {h0 : PH} {m : Nat} {ar : Nat → Nat} (hd : md m ar) (σ : MS)   : Ct l D yX3_keep cX3_keep 2 none (rmM 0 0) [.ref m] (mh h0 m ar σ) (PM h0 m ar (none) (m_keep σ)) := by
  refine Ct.of (by decide) rfl (fun Γ X rr hmn => ?_)
  have X : Cx l D cX3_keep RX3 2 (rmM 0 0) Γ := X
  show J Γ (mh h0 m ar σ) 0 0 0 [(0, .ref m)] []
  refine J_iconst X (nI 0) (dt tX3_keep 0 rfl) (by decide) ?_
  refine J_istore_n X (lv2 := [(1, .int (nI 0)), (0, .ref m)]) (dt tX3_keep 1 rfl) rfl rfl rfl ?_
  refine J_sub [1, 0] rfl ?_
  refine J_heap (h2 := mh h0 m ar (sA σ 1 (cpn (σ.1 0) (σ.1 1) 0))) (by rw [cpn_0, sA_id]) ?_
  refine up_to 88 (P := fun i1 => J Γ (mh h0 m ar (sA σ 1 (cpn (σ.1 0) (σ.1 1) i1))) 0 0 2 [(0, .ref m), (1, .int (nI i1))] []) ?_ ?_
  · show J Γ (mh h0 m ar (sA σ 1 (cpn (σ.1 0) (σ.1 1) 88))) 0 0 2 [(0, .ref m), (1, .int (nI 88))] []
    refine J_iload_n X (dt tX3_keep 2 rfl) 1 rfl ?_
    refine J_bipush X (nI 88) (dt tX3_keep 3 rfl) (by decide) ?_
    refine J_icmp_ge X 26 (dt tX3_keep 4 rfl) (by decide) (fun _ => ?_) (fun c9 => absurd (nI_le (Nat.le_refl 88) (by decide)) c9)
    exact J_vret X rr (dt tX3_keep 15 rfl) (Nat.zero_le _) (Nat.zero_le _) ⟨rfl, rfl⟩
  · intro i1 hi1 ih
    refine J_iload_n X (dt tX3_keep 2 rfl) 1 rfl ?_
    refine J_bipush X (nI 88) (dt tX3_keep 3 rfl) (by decide) ?_
    refine J_icmp_ge X 26 (dt tX3_keep 4 rfl) (by decide) (fun c9 => absurd c9 (nI_ge hi1 (by decide))) (fun _ => ?_)
    refine J_aload_n X (dt tX3_keep 5 rfl) 0 rfl ?_
    refine M_get_kept X (dt tX3_keep 6 rfl) ?_
    refine J_iload_n X (dt tX3_keep 7 rfl) 1 rfl ?_
    refine J_aload_n X (dt tX3_keep 8 rfl) 0 rfl ?_
    refine M_get_all X (dt tX3_keep 9 rfl) ?_
    refine J_iload_n X (dt tX3_keep 10 rfl) 1 rfl ?_
    refine M_ald_all X hd (dt tX3_keep 11 rfl) (by omega) ?_
    refine M_ast_kept X hd (dt tX3_keep 12 rfl) (by omega) ?_
    refine J_heap (h2 := mh h0 m ar (sA σ 1 (upd (cpn (σ.1 0) (σ.1 1) i1) i1 (σ.1 0 i1)))) (congrArg (mh h0 m ar) (sA_sA _ _ _ _)) ?_
    refine J_iinc X (lv2 := [(1, .int (nI (i1 + 1))), (0, .ref m)]) (dt tX3_keep 13 rfl) 1 (nI (i1 + 1)) rfl (nI_add i1 1) rfl rfl ?_
    refine J_goto X (tgt := 2) (dt tX3_keep 14 rfl) (by decide) ?_
    refine J_sub [1, 0] rfl ?_
    refine J_heap (h2 := mh h0 m ar (sA σ 1 (cpn (σ.1 0) (σ.1 1) (i1 + 1)))) (congrArg (mh h0 m ar) (congrArg (sA σ 1) (cpn_s (σ.1 0) (σ.1 1) i1))) ?_
    exact ih
abbrev cX3_giveBack : ByteArray := prog_12_method_5_code
def yX3_giveBack : MethodName := ⟨RX3, "giveBack", "()V"⟩
theorem tX3_giveBack : dtab cX3_giveBack [(0, .iconst 0, 1, 1), (1, .istore_n 1, 1, 2), (2, .iload_n 1, 1, 3), (3, .bipush 88, 2, 5), (5, .if_icmp .ge 21, 3, 8), (8, .aload_n 0, 1, 9), (9, .getfield 7, 3, 12), (12, .iload_n 1, 1, 13), (13, .aload_n 0, 1, 14), (14, .getfield 13, 3, 17), (17, .iload_n 1, 1, 18), (18, .iaload, 1, 19), (19, .iastore, 1, 20), (20, .iinc 1 1, 3, 23), (23, .goto (-21), 3, 26), (26, .return_, 1, 27)] := by unfold dtab; decide +kernel
theorem okX3_giveBack : okY yX3_giveBack 0 := by decide +kernel
set_option maxHeartbeats 4000000 in
theorem c_giveBack (l : Launch) (D : va_G) {h0 : PH} {m : Nat} {ar : Nat → Nat} (hd : md m ar) (σ : MS)   : Ct l D yX3_giveBack cX3_giveBack 2 none (rmM 0 0) [.ref m] (mh h0 m ar σ) (PM h0 m ar (none) (m_give σ)) := by
  refine Ct.of (by decide) rfl (fun Γ X rr hmn => ?_)
  have X : Cx l D cX3_giveBack RX3 2 (rmM 0 0) Γ := X
  show J Γ (mh h0 m ar σ) 0 0 0 [(0, .ref m)] []
  refine J_iconst X (nI 0) (dt tX3_giveBack 0 rfl) (by decide) ?_
  refine J_istore_n X (lv2 := [(1, .int (nI 0)), (0, .ref m)]) (dt tX3_giveBack 1 rfl) rfl rfl rfl ?_
  refine J_sub [1, 0] rfl ?_
  refine J_heap (h2 := mh h0 m ar (sA σ 0 (cpn (σ.1 1) (σ.1 0) 0))) (by rw [cpn_0, sA_id]) ?_
  refine up_to 88 (P := fun i1 => J Γ (mh h0 m ar (sA σ 0 (cpn (σ.1 1) (σ.1 0) i1))) 0 0 2 [(0, .ref m), (1, .int (nI i1))] []) ?_ ?_
  · show J Γ (mh h0 m ar (sA σ 0 (cpn (σ.1 1) (σ.1 0) 88))) 0 0 2 [(0, .ref m), (1, .int (nI 88))] []
    refine J_iload_n X (dt tX3_giveBack 2 rfl) 1 rfl ?_
    refine J_bipush X (nI 88) (dt tX3_giveBack 3 rfl) (by decide) ?_
    refine J_icmp_ge X 26 (dt tX3_giveBack 4 rfl) (by decide) (fun _ => ?_) (fun c9 => absurd (nI_le (Nat.le_refl 88) (by decide)) c9)
    exact J_vret X rr (dt tX3_giveBack 15 rfl) (Nat.zero_le _) (Nat.zero_le _) ⟨rfl, rfl⟩
  · intro i1 hi1 ih
    refine J_iload_n X (dt tX3_giveBack 2 rfl) 1 rfl ?_
    refine J_bipush X (nI 88) (dt tX3_giveBack 3 rfl) (by decide) ?_
    refine J_icmp_ge X 26 (dt tX3_giveBack 4 rfl) (by decide) (fun c9 => absurd c9 (nI_ge hi1 (by decide))) (fun _ => ?_)
    refine J_aload_n X (dt tX3_giveBack 5 rfl) 0 rfl ?_
    refine M_get_all X (dt tX3_giveBack 6 rfl) ?_
    refine J_iload_n X (dt tX3_giveBack 7 rfl) 1 rfl ?_
    refine J_aload_n X (dt tX3_giveBack 8 rfl) 0 rfl ?_
    refine M_get_kept X (dt tX3_giveBack 9 rfl) ?_
    refine J_iload_n X (dt tX3_giveBack 10 rfl) 1 rfl ?_
    refine M_ald_kept X hd (dt tX3_giveBack 11 rfl) (by omega) ?_
    refine M_ast_all X hd (dt tX3_giveBack 12 rfl) (by omega) ?_
    refine J_heap (h2 := mh h0 m ar (sA σ 0 (upd (cpn (σ.1 1) (σ.1 0) i1) i1 (σ.1 1 i1)))) (congrArg (mh h0 m ar) (sA_sA _ _ _ _)) ?_
    refine J_iinc X (lv2 := [(1, .int (nI (i1 + 1))), (0, .ref m)]) (dt tX3_giveBack 13 rfl) 1 (nI (i1 + 1)) rfl (nI_add i1 1) rfl rfl ?_
    refine J_goto X (tgt := 2) (dt tX3_giveBack 14 rfl) (by decide) ?_
    refine J_sub [1, 0] rfl ?_
    refine J_heap (h2 := mh h0 m ar (sA σ 0 (cpn (σ.1 1) (σ.1 0) (i1 + 1)))) (congrArg (mh h0 m ar) (congrArg (sA σ 0) (cpn_s (σ.1 1) (σ.1 0) i1))) ?_
    exact ih
def m_runs0 (a : Nat → Int32) : Nat → Int32
  | 0 => 0
  | i + 1 => m_runs0 a i + a (1 + i)
def m_runners (σ : MS) : Int32 := m_runs0 (σ.1 0) 8
abbrev cX3_runners : ByteArray := prog_12_method_10_code
def yX3_runners : MethodName := ⟨RX3, "runners", "()I"⟩
theorem tX3_runners : dtab cX3_runners [(0, .iconst 0, 1, 1), (1, .istore_n 1, 1, 2), (2, .iconst 0, 1, 3), (3, .istore_n 2, 1, 4), (4, .iload_n 2, 1, 5), (5, .bipush 8, 2, 7), (7, .if_icmp .ge 20, 3, 10), (10, .iload_n 1, 1, 11), (11, .aload_n 0, 1, 12), (12, .getfield 7, 3, 15), (15, .iconst 1, 1, 16), (16, .iload_n 2, 1, 17), (17, .iadd, 1, 18), (18, .iaload, 1, 19), (19, .iadd, 1, 20), (20, .istore_n 1, 1, 21), (21, .iinc 2 1, 3, 24), (24, .goto (-20), 3, 27), (27, .iload_n 1, 1, 28), (28, .ireturn, 1, 29)] := by unfold dtab; decide +kernel
theorem okX3_runners : okY yX3_runners 0 := by decide +kernel
set_option maxHeartbeats 4000000 in
theorem c_runners (l : Launch) (D : va_G) {h0 : PH} {m : Nat} {ar : Nat → Nat} (hd : md m ar) (σ : MS)   : Ct l D yX3_runners cX3_runners 3 (some .int) (rmM 0 0) [.ref m] (mh h0 m ar σ) (PM h0 m ar (some (.int (m_runners σ))) σ) := by
  refine Ct.of (by decide) rfl (fun Γ X rr hmn => ?_)
  have X : Cx l D cX3_runners RX3 3 (rmM 0 0) Γ := X
  show J Γ (mh h0 m ar σ) 0 0 0 [(0, .ref m)] []
  refine J_iconst X (nI 0) (dt tX3_runners 0 rfl) (by decide) ?_
  refine J_istore_n X (lv2 := [(1, .int (nI 0)), (0, .ref m)]) (dt tX3_runners 1 rfl) rfl rfl rfl ?_
  refine J_iconst X (nI 0) (dt tX3_runners 2 rfl) (by decide) ?_
  refine J_istore_n X (lv2 := [(2, .int (nI 0)), (1, .int (nI 0)), (0, .ref m)]) (dt tX3_runners 3 rfl) rfl rfl rfl ?_
  refine J_sub [2, 1, 0] rfl ?_
  refine up_to 8 (P := fun i1 => J Γ (mh h0 m ar σ) 0 0 4 [(0, .ref m), (1, .int (m_runs0 (σ.1 0) i1)), (2, .int (nI i1))] []) ?_ ?_
  · show J Γ (mh h0 m ar σ) 0 0 4 [(0, .ref m), (1, .int (m_runs0 (σ.1 0) 8)), (2, .int (nI 8))] []
    refine J_iload_n X (dt tX3_runners 4 rfl) 2 rfl ?_
    refine J_bipush X (nI 8) (dt tX3_runners 5 rfl) (by decide) ?_
    refine J_icmp_ge X 27 (dt tX3_runners 6 rfl) (by decide) (fun _ => ?_) (fun c9 => absurd (nI_le (Nat.le_refl 8) (by decide)) c9)
    refine J_iload_n X (dt tX3_runners 18 rfl) 1 rfl ?_
    exact J_iret X rr (dt tX3_runners 19 rfl) (Nat.zero_le _) (Nat.zero_le _) ⟨rfl, rfl⟩
  · intro i1 hi1 ih
    refine J_iload_n X (dt tX3_runners 4 rfl) 2 rfl ?_
    refine J_bipush X (nI 8) (dt tX3_runners 5 rfl) (by decide) ?_
    refine J_icmp_ge X 27 (dt tX3_runners 6 rfl) (by decide) (fun c9 => absurd c9 (nI_ge hi1 (by decide))) (fun _ => ?_)
    refine J_iload_n X (dt tX3_runners 7 rfl) 1 rfl ?_
    refine J_aload_n X (dt tX3_runners 8 rfl) 0 rfl ?_
    refine M_get_all X (dt tX3_runners 9 rfl) ?_
    refine J_iconst X (nI 1) (dt tX3_runners 10 rfl) (by decide) ?_
    refine J_iload_n X (dt tX3_runners 11 rfl) 2 rfl ?_
    refine J_iaddN X (dt tX3_runners 12 rfl) ?_
    refine M_ald_all X hd (dt tX3_runners 13 rfl) (by omega) ?_
    refine J_iadd X (dt tX3_runners 14 rfl) ?_
    refine J_istore_n X (lv2 := [(1, .int ((m_runs0 (σ.1 0) i1) + (σ.1 0 (1 + i1)))), (0, .ref m), (2, .int (nI i1))]) (dt tX3_runners 15 rfl) rfl rfl rfl ?_
    refine J_iinc X (lv2 := [(2, .int (nI (i1 + 1))), (1, .int ((m_runs0 (σ.1 0) i1) + (σ.1 0 (1 + i1)))), (0, .ref m)]) (dt tX3_runners 16 rfl) 2 (nI (i1 + 1)) rfl (nI_add i1 1) rfl rfl ?_
    refine J_goto X (tgt := 4) (dt tX3_runners 17 rfl) (by decide) ?_
    refine J_sub [2, 1, 0] rfl ?_
    exact ih
def m_placeBehind (σ : MS) (j : Nat) (t : Int32) : Int32 := σ.1 0 (9 + j) + σ.1 0 (17 + j) * t
def m_by (σ : MS) (i j : Nat) (t : Int32) : Int32 := m_placeBehind σ i t - m_placeBehind σ j t
def m_isAhead (σ : MS) (i j : Nat) (t : Int32) : Int32 := if 0 < m_by σ i j t then 1 else if m_by σ i j t = 0 then (if nI j ≤ nI i then 0 else 1) else 0
theorem m_isAhead_B (σ : MS) (i j : Nat) (t : Int32) : isB (m_isAhead σ i j t) := isB_ite isB_1 (isB_ite (isB_ite isB_0 isB_1) isB_0)
def m_gains (σ : MS) (o i : Nat) : Int32 := σ.1 0 (17 + o) - σ.1 0 (17 + i)
def m_apart (σ : MS) (o i : Nat) : Int32 := σ.1 0 (9 + i) - σ.1 0 (9 + o)
def m_quot (x g : Int32) (o i : Nat) : Int32 := if x - x / g * g = 0 then (if nI i ≤ nI o then x / g + 1 else x / g) else x / g + 1
def m_overtakes (σ : MS) (o i : Nat) : Int32 := if 0 < m_gains σ o i then m_quot (m_apart σ o i) (m_gains σ o i) o i else -1
abbrev cX3_placeBehind : ByteArray := prog_12_method_11_code
def yX3_placeBehind : MethodName := ⟨RX3, "placeBehind", "(II)I"⟩
theorem tX3_placeBehind : dtab cX3_placeBehind [(0, .aload_n 0, 1, 1), (1, .getfield 7, 3, 4), (4, .bipush 9, 2, 6), (6, .iload_n 1, 1, 7), (7, .iadd, 1, 8), (8, .iaload, 1, 9), (9, .aload_n 0, 1, 10), (10, .getfield 7, 3, 13), (13, .bipush 17, 2, 15), (15, .iload_n 1, 1, 16), (16, .iadd, 1, 17), (17, .iaload, 1, 18), (18, .iload_n 2, 1, 19), (19, .imul, 1, 20), (20, .iadd, 1, 21), (21, .ireturn, 1, 22)] := by unfold dtab; decide +kernel
theorem okX3_placeBehind : okY yX3_placeBehind 2 := by decide +kernel
set_option maxHeartbeats 4000000 in
theorem c_placeBehind (l : Launch) (D : va_G) {h0 : PH} {m : Nat} {ar : Nat → Nat} (hd : md m ar) (σ : MS) (j : Nat) (t : Int32) (hj : j < 8) : Ct l D yX3_placeBehind cX3_placeBehind 3 (some .int) (rmM 0 0) [.ref m, .int (nI j), .int t] (mh h0 m ar σ) (PM h0 m ar (some (.int (m_placeBehind σ j t))) σ) := by
  refine Ct.of (by decide) rfl (fun Γ X rr hmn => ?_)
  have X : Cx l D cX3_placeBehind RX3 3 (rmM 0 0) Γ := X
  show J Γ (mh h0 m ar σ) 0 0 0 [(0, .ref m), (1, .int (nI j)), (2, .int t)] []
  refine J_aload_n X (dt tX3_placeBehind 0 rfl) 0 rfl ?_
  refine M_get_all X (dt tX3_placeBehind 1 rfl) ?_
  refine J_bipush X (nI 9) (dt tX3_placeBehind 2 rfl) (by decide) ?_
  refine J_iload_n X (dt tX3_placeBehind 3 rfl) 1 rfl ?_
  refine J_iaddN X (dt tX3_placeBehind 4 rfl) ?_
  refine M_ald_all X hd (dt tX3_placeBehind 5 rfl) (by omega) ?_
  refine J_aload_n X (dt tX3_placeBehind 6 rfl) 0 rfl ?_
  refine M_get_all X (dt tX3_placeBehind 7 rfl) ?_
  refine J_bipush X (nI 17) (dt tX3_placeBehind 8 rfl) (by decide) ?_
  refine J_iload_n X (dt tX3_placeBehind 9 rfl) 1 rfl ?_
  refine J_iaddN X (dt tX3_placeBehind 10 rfl) ?_
  refine M_ald_all X hd (dt tX3_placeBehind 11 rfl) (by omega) ?_
  refine J_iload_n X (dt tX3_placeBehind 12 rfl) 2 rfl ?_
  refine J_imul X (dt tX3_placeBehind 13 rfl) ?_
  refine J_iadd X (dt tX3_placeBehind 14 rfl) ?_
  exact J_iret X rr (dt tX3_placeBehind 15 rfl) (Nat.zero_le _) (Nat.zero_le _) ⟨rfl, rfl⟩
abbrev cX3_isAhead : ByteArray := prog_12_method_12_code
def yX3_isAhead : MethodName := ⟨RX3, "isAhead", "(III)Z"⟩
theorem tX3_isAhead : dtab cX3_isAhead [(0, .aload_n 0, 1, 1), (1, .iload_n 1, 1, 2), (2, .iload_n 3, 1, 3), (3, .invokevirtual 43, 3, 6), (6, .aload_n 0, 1, 7), (7, .iload_n 2, 1, 8), (8, .iload_n 3, 1, 9), (9, .invokevirtual 43, 3, 12), (12, .isub, 1, 13), (13, .istore 4, 2, 15), (15, .iload 4, 2, 17), (17, .ifCond .gt 13, 3, 20), (20, .iload 4, 2, 22), (22, .ifCond .ne 12, 3, 25), (25, .iload_n 1, 1, 26), (26, .iload_n 2, 1, 27), (27, .if_icmp .ge 7, 3, 30), (30, .iconst 1, 1, 31), (31, .goto 4, 3, 34), (34, .iconst 0, 1, 35), (35, .ireturn, 1, 36)] := by unfold dtab; decide +kernel
theorem okX3_isAhead : okY yX3_isAhead 3 := by decide +kernel
set_option maxHeartbeats 4000000 in
theorem c_isAhead (l : Launch) (D : va_G) {h0 : PH} {m : Nat} {ar : Nat → Nat} (hd : md m ar) (σ : MS) (i : Nat) (j : Nat) (t : Int32) (hi : i < 8) (hj : j < 8) : Ct l D yX3_isAhead cX3_isAhead 5 (some .boolean) (rmM 1 22) [.ref m, .int (nI i), .int (nI j), .int t] (mh h0 m ar σ) (PM h0 m ar (some (.int (m_isAhead σ i j t))) σ) := by
  refine Ct.of (by decide) rfl (fun Γ X rr hmn => ?_)
  have X : Cx l D cX3_isAhead RX3 5 (rmM 1 22) Γ := X
  show J Γ (mh h0 m ar σ) 0 0 0 [(0, .ref m), (1, .int (nI i)), (2, .int (nI j)), (3, .int t)] []
  refine J_aload_n X (dt tX3_isAhead 0 rfl) 0 rfl ?_
  refine J_iload_n X (dt tX3_isAhead 1 rfl) 1 rfl ?_
  refine J_iload_n X (dt tX3_isAhead 2 rfl) 3 rfl ?_
  refine M_callV (rest := []) X (dt tX3_isAhead 3 rfl) (c_placeBehind l D hd σ i t (by omega)) (lw_V q1925 q1927 qs43 q86 q1928) okX3_placeBehind rfl rfl ⟨Nat.le_of_ble_eq_true rfl, Nat.le_of_ble_eq_true rfl⟩ rfl (Nat.le_of_ble_eq_true rfl) (Nat.zero_le _) (Nat.zero_le _) ?_
  refine J_aload_n X (dt tX3_isAhead 4 rfl) 0 rfl ?_
  refine J_iload_n X (dt tX3_isAhead 5 rfl) 2 rfl ?_
  refine J_iload_n X (dt tX3_isAhead 6 rfl) 3 rfl ?_
  refine M_callV (rest := [.int (m_placeBehind σ i t)]) X (dt tX3_isAhead 7 rfl) (c_placeBehind l D hd σ j t (by omega)) (lw_V q1925 q1927 qs43 q86 q1928) okX3_placeBehind rfl rfl ⟨Nat.le_of_ble_eq_true rfl, Nat.le_of_ble_eq_true rfl⟩ rfl (Nat.le_of_ble_eq_true rfl) (Nat.zero_le _) (Nat.zero_le _) ?_
  refine J_isub X (dt tX3_isAhead 8 rfl) ?_
  refine J_istore X (lv2 := [(4, .int ((m_placeBehind σ i t) - (m_placeBehind σ j t))), (0, .ref m), (1, .int (nI i)), (2, .int (nI j)), (3, .int t)]) (dt tX3_isAhead 9 rfl) rfl rfl ?_
  refine J_iload X (dt tX3_isAhead 10 rfl) 0 rfl ?_
  have kj5 : ∀ v4 : Int32, v4 = (if 0 < ((m_placeBehind σ i t) - (m_placeBehind σ j t)) then nI 1 else if ((m_placeBehind σ i t) - (m_placeBehind σ j t)) = 0 then if (nI j) ≤ (nI i) then nI 0 else nI 1 else nI 0) → J Γ (mh h0 m ar σ) 0 0 35 [(4, .int ((m_placeBehind σ i t) - (m_placeBehind σ j t))), (0, .ref m), (1, .int (nI i)), (2, .int (nI j)), (3, .int t)] [.int v4] := by
    intro v4 ev4
    exact J_zret X rr (dt tX3_isAhead 20 rfl) (Nat.zero_le _) (Nat.zero_le _) (isB.nar (by subst_vars; exact m_isAhead_B σ i j t)) (by subst_vars; exact ⟨rfl, rfl⟩)
  refine J_if_gt X 30 (dt tX3_isAhead 11 rfl) (by decide) (fun c1 => ?_) (fun c1 => ?_)
  · refine J_iconst X (nI 1) (dt tX3_isAhead 17 rfl) (by decide) ?_
    refine J_goto X (tgt := 35) (dt tX3_isAhead 18 rfl) (by decide) ?_
    exact kj5 _ (if_pos c1).symm
  · refine J_iload X (dt tX3_isAhead 12 rfl) 0 rfl ?_
    refine J_if_ne X 34 (dt tX3_isAhead 13 rfl) (by decide) (fun c2 => ?_) (fun c2 => ?_)
    · refine J_iconst X (nI 0) (dt tX3_isAhead 19 rfl) (by decide) ?_
      exact kj5 _ ((if_neg c1).trans (if_neg c2)).symm
    · refine J_iload_n X (dt tX3_isAhead 14 rfl) 2 rfl ?_
      refine J_iload_n X (dt tX3_isAhead 15 rfl) 3 rfl ?_
      refine J_icmp_ge X 34 (dt tX3_isAhead 16 rfl) (by decide) (fun c3 => ?_) (fun c3 => ?_)
      · refine J_iconst X (nI 0) (dt tX3_isAhead 19 rfl) (by decide) ?_
        exact kj5 _ ((if_neg c1).trans ((if_pos c2).trans (if_pos c3))).symm
      · refine J_iconst X (nI 1) (dt tX3_isAhead 17 rfl) (by decide) ?_
        refine J_goto X (tgt := 35) (dt tX3_isAhead 18 rfl) (by decide) ?_
        exact kj5 _ ((if_neg c1).trans ((if_pos c2).trans (if_neg c3))).symm
abbrev cX3_overtakes : ByteArray := prog_12_method_13_code
def yX3_overtakes : MethodName := ⟨RX3, "overtakes", "(II)I"⟩
theorem tX3_overtakes : dtab cX3_overtakes [(0, .aload_n 0, 1, 1), (1, .getfield 7, 3, 4), (4, .bipush 9, 2, 6), (6, .iload_n 2, 1, 7), (7, .iadd, 1, 8), (8, .iaload, 1, 9), (9, .aload_n 0, 1, 10), (10, .getfield 7, 3, 13), (13, .bipush 9, 2, 15), (15, .iload_n 1, 1, 16), (16, .iadd, 1, 17), (17, .iaload, 1, 18), (18, .isub, 1, 19), (19, .istore_n 3, 1, 20), (20, .aload_n 0, 1, 21), (21, .getfield 7, 3, 24), (24, .bipush 17, 2, 26), (26, .iload_n 1, 1, 27), (27, .iadd, 1, 28), (28, .iaload, 1, 29), (29, .aload_n 0, 1, 30), (30, .getfield 7, 3, 33), (33, .bipush 17, 2, 35), (35, .iload_n 2, 1, 36), (36, .iadd, 1, 37), (37, .iaload, 1, 38), (38, .isub, 1, 39), (39, .istore 4, 2, 41), (41, .iload 4, 2, 43), (43, .ifCond .gt 5, 3, 46), (46, .iconst (-1), 1, 47), (47, .ireturn, 1, 48), (48, .iload_n 3, 1, 49), (49, .iload 4, 2, 51), (51, .irem, 1, 52), (52, .ifCond .ne 15, 3, 55), (55, .iload_n 1, 1, 56), (56, .iload_n 2, 1, 57), (57, .if_icmp .ge 10, 3, 60), (60, .iload_n 3, 1, 61), (61, .iload 4, 2, 63), (63, .idiv, 1, 64), (64, .goto 9, 3, 67), (67, .iload_n 3, 1, 68), (68, .iload 4, 2, 70), (70, .idiv, 1, 71), (71, .iconst 1, 1, 72), (72, .iadd, 1, 73), (73, .ireturn, 1, 74)] := by unfold dtab; decide +kernel
theorem okX3_overtakes : okY yX3_overtakes 2 := by decide +kernel
set_option maxHeartbeats 4000000 in
theorem c_overtakes (l : Launch) (D : va_G) {h0 : PH} {m : Nat} {ar : Nat → Nat} (hd : md m ar) (σ : MS) (o : Nat) (i : Nat) (ho : o < 8) (hi : i < 8) : Ct l D yX3_overtakes cX3_overtakes 5 (some .int) (rmM 0 0) [.ref m, .int (nI o), .int (nI i)] (mh h0 m ar σ) (PM h0 m ar (some (.int (m_overtakes σ o i))) σ) := by
  refine Ct.of (by decide) rfl (fun Γ X rr hmn => ?_)
  have X : Cx l D cX3_overtakes RX3 5 (rmM 0 0) Γ := X
  show J Γ (mh h0 m ar σ) 0 0 0 [(0, .ref m), (1, .int (nI o)), (2, .int (nI i))] []
  refine J_aload_n X (dt tX3_overtakes 0 rfl) 0 rfl ?_
  refine M_get_all X (dt tX3_overtakes 1 rfl) ?_
  refine J_bipush X (nI 9) (dt tX3_overtakes 2 rfl) (by decide) ?_
  refine J_iload_n X (dt tX3_overtakes 3 rfl) 2 rfl ?_
  refine J_iaddN X (dt tX3_overtakes 4 rfl) ?_
  refine M_ald_all X hd (dt tX3_overtakes 5 rfl) (by omega) ?_
  refine J_aload_n X (dt tX3_overtakes 6 rfl) 0 rfl ?_
  refine M_get_all X (dt tX3_overtakes 7 rfl) ?_
  refine J_bipush X (nI 9) (dt tX3_overtakes 8 rfl) (by decide) ?_
  refine J_iload_n X (dt tX3_overtakes 9 rfl) 1 rfl ?_
  refine J_iaddN X (dt tX3_overtakes 10 rfl) ?_
  refine M_ald_all X hd (dt tX3_overtakes 11 rfl) (by omega) ?_
  refine J_isub X (dt tX3_overtakes 12 rfl) ?_
  refine J_istore_n X (lv2 := [(3, .int ((σ.1 0 (9 + i)) - (σ.1 0 (9 + o)))), (0, .ref m), (1, .int (nI o)), (2, .int (nI i))]) (dt tX3_overtakes 13 rfl) rfl rfl rfl ?_
  refine J_aload_n X (dt tX3_overtakes 14 rfl) 1 rfl ?_
  refine M_get_all X (dt tX3_overtakes 15 rfl) ?_
  refine J_bipush X (nI 17) (dt tX3_overtakes 16 rfl) (by decide) ?_
  refine J_iload_n X (dt tX3_overtakes 17 rfl) 2 rfl ?_
  refine J_iaddN X (dt tX3_overtakes 18 rfl) ?_
  refine M_ald_all X hd (dt tX3_overtakes 19 rfl) (by omega) ?_
  refine J_aload_n X (dt tX3_overtakes 20 rfl) 1 rfl ?_
  refine M_get_all X (dt tX3_overtakes 21 rfl) ?_
  refine J_bipush X (nI 17) (dt tX3_overtakes 22 rfl) (by decide) ?_
  refine J_iload_n X (dt tX3_overtakes 23 rfl) 3 rfl ?_
  refine J_iaddN X (dt tX3_overtakes 24 rfl) ?_
  refine M_ald_all X hd (dt tX3_overtakes 25 rfl) (by omega) ?_
  refine J_isub X (dt tX3_overtakes 26 rfl) ?_
  refine J_istore X (lv2 := [(4, .int ((σ.1 0 (17 + o)) - (σ.1 0 (17 + i)))), (3, .int ((σ.1 0 (9 + i)) - (σ.1 0 (9 + o)))), (0, .ref m), (1, .int (nI o)), (2, .int (nI i))]) (dt tX3_overtakes 27 rfl) rfl rfl ?_
  refine J_iload X (dt tX3_overtakes 28 rfl) 0 rfl ?_
  refine J_if_gt X 48 (dt tX3_overtakes 29 rfl) (by decide) (fun c1 => ?_) (fun c1 => ?_)
  · refine J_iload_n X (dt tX3_overtakes 32 rfl) 1 rfl ?_
    refine J_iload X (dt tX3_overtakes 33 rfl) 0 rfl ?_
    refine J_irem X (dt tX3_overtakes 34 rfl) (fun z => by rw [z] at c1; exact absurd c1 (by decide)) ?_
    have kj5 : ∀ v4 : Int32, v4 = (if (((σ.1 0 (9 + i)) - (σ.1 0 (9 + o))) - ((σ.1 0 (9 + i)) - (σ.1 0 (9 + o))) / ((σ.1 0 (17 + o)) - (σ.1 0 (17 + i))) * ((σ.1 0 (17 + o)) - (σ.1 0 (17 + i)))) = 0 then if (nI i) ≤ (nI o) then (((σ.1 0 (9 + i)) - (σ.1 0 (9 + o))) / ((σ.1 0 (17 + o)) - (σ.1 0 (17 + i)))) + (nI 1) else ((σ.1 0 (9 + i)) - (σ.1 0 (9 + o))) / ((σ.1 0 (17 + o)) - (σ.1 0 (17 + i))) else (((σ.1 0 (9 + i)) - (σ.1 0 (9 + o))) / ((σ.1 0 (17 + o)) - (σ.1 0 (17 + i)))) + (nI 1)) → J Γ (mh h0 m ar σ) 0 0 73 [(4, .int ((σ.1 0 (17 + o)) - (σ.1 0 (17 + i)))), (3, .int ((σ.1 0 (9 + i)) - (σ.1 0 (9 + o)))), (0, .ref m), (1, .int (nI o)), (2, .int (nI i))] [.int v4] := by
      intro v4 ev4
      exact J_iret X rr (dt tX3_overtakes 48 rfl) (Nat.zero_le _) (Nat.zero_le _) (by first | exact ⟨congrArg (fun z => some (Value.int z)) (if_pos c1).symm, rfl⟩ | (subst_vars; exact ⟨congrArg (fun z => some (Value.int z)) (if_pos c1).symm, rfl⟩))
    refine J_if_ne X 67 (dt tX3_overtakes 35 rfl) (by decide) (fun c2 => ?_) (fun c2 => ?_)
    · refine J_iload_n X (dt tX3_overtakes 43 rfl) 1 rfl ?_
      refine J_iload X (dt tX3_overtakes 44 rfl) 0 rfl ?_
      refine J_idiv X (dt tX3_overtakes 45 rfl) (fun z => by rw [z] at c1; exact absurd c1 (by decide)) ?_
      refine J_iconst X (nI 1) (dt tX3_overtakes 46 rfl) (by decide) ?_
      refine J_iadd X (dt tX3_overtakes 47 rfl) ?_
      exact kj5 _ (if_neg c2).symm
    · refine J_iload_n X (dt tX3_overtakes 36 rfl) 3 rfl ?_
      refine J_iload_n X (dt tX3_overtakes 37 rfl) 4 rfl ?_
      refine J_icmp_ge X 67 (dt tX3_overtakes 38 rfl) (by decide) (fun c3 => ?_) (fun c3 => ?_)
      · refine J_iload_n X (dt tX3_overtakes 43 rfl) 1 rfl ?_
        refine J_iload X (dt tX3_overtakes 44 rfl) 0 rfl ?_
        refine J_idiv X (dt tX3_overtakes 45 rfl) (fun z => by rw [z] at c1; exact absurd c1 (by decide)) ?_
        refine J_iconst X (nI 1) (dt tX3_overtakes 46 rfl) (by decide) ?_
        refine J_iadd X (dt tX3_overtakes 47 rfl) ?_
        exact kj5 _ ((if_pos c2).trans (if_pos c3)).symm
      · refine J_iload_n X (dt tX3_overtakes 39 rfl) 1 rfl ?_
        refine J_iload X (dt tX3_overtakes 40 rfl) 0 rfl ?_
        refine J_idiv X (dt tX3_overtakes 41 rfl) (fun z => by rw [z] at c1; exact absurd c1 (by decide)) ?_
        refine J_goto X (tgt := 73) (dt tX3_overtakes 42 rfl) (by decide) ?_
        exact kj5 _ ((if_pos c2).trans (if_neg c3)).symm
  · refine J_iconst X (-1) (dt tX3_overtakes 30 rfl) (by decide) ?_
    exact J_iret X rr (dt tX3_overtakes 31 rfl) (Nat.zero_le _) (Nat.zero_le _) (by first | exact ⟨congrArg (fun z => some (Value.int z)) (if_neg c1).symm, rfl⟩ | (subst_vars; exact ⟨congrArg (fun z => some (Value.int z)) (if_neg c1).symm, rfl⟩))
def m_racer (σ : MS) (r w : Nat) : Int32 := if r ≤ 3 then (if m_has σ (2 * r + w) = 0 then -1 else nI (2 * r + w)) else σ.1 0 (33 + 2 * (r - 4) + w)
def m_leaderNow (σ : MS) : Int32 := σ.1 0 39
def m_leaderBefore (σ : MS) (kp : Nat) : Int32 := if kp = 0 then -1 else σ.1 0 (68 + kp - 1)
abbrev cX3_racer : ByteArray := prog_12_method_14_code
def yX3_racer : MethodName := ⟨RX3, "racer", "(II)I"⟩
theorem tX3_racer : dtab cX3_racer [(0, .iload_n 1, 1, 1), (1, .iconst 3, 1, 2), (2, .if_icmp .le 19, 3, 5), (5, .aload_n 0, 1, 6), (6, .getfield 7, 3, 9), (9, .bipush 33, 2, 11), (11, .iconst 2, 1, 12), (12, .iload_n 1, 1, 13), (13, .iconst 4, 1, 14), (14, .isub, 1, 15), (15, .imul, 1, 16), (16, .iadd, 1, 17), (17, .iload_n 2, 1, 18), (18, .iadd, 1, 19), (19, .iaload, 1, 20), (20, .ireturn, 1, 21), (21, .iconst 2, 1, 22), (22, .iload_n 1, 1, 23), (23, .imul, 1, 24), (24, .iload_n 2, 1, 25), (25, .iadd, 1, 26), (26, .istore_n 3, 1, 27), (27, .aload_n 0, 1, 28), (28, .iload_n 3, 1, 29), (29, .invokevirtual 47, 3, 32), (32, .ifCond .eq 7, 3, 35), (35, .iload_n 3, 1, 36), (36, .goto 4, 3, 39), (39, .iconst (-1), 1, 40), (40, .ireturn, 1, 41)] := by unfold dtab; decide +kernel
theorem okX3_racer : okY yX3_racer 2 := by decide +kernel
set_option maxHeartbeats 4000000 in
theorem c_racer (l : Launch) (D : va_G) {h0 : PH} {m : Nat} {ar : Nat → Nat} (hd : md m ar) (σ : MS) (r : Nat) (w : Nat) (hr : r < 7) (hw : w < 2) : Ct l D yX3_racer cX3_racer 4 (some .int) (rmM 1 21) [.ref m, .int (nI r), .int (nI w)] (mh h0 m ar σ) (PM h0 m ar (some (.int (m_racer σ r w))) σ) := by
  refine Ct.of (by decide) rfl (fun Γ X rr hmn => ?_)
  have X : Cx l D cX3_racer RX3 4 (rmM 1 21) Γ := X
  show J Γ (mh h0 m ar σ) 0 0 0 [(0, .ref m), (1, .int (nI r)), (2, .int (nI w))] []
  by_cases h3 : r ≤ 3
  · refine J_iload_n X (dt tX3_racer 0 rfl) 1 rfl ?_
    refine J_iconst X (nI 3) (dt tX3_racer 1 rfl) (by decide) ?_
    refine J_icmp_le X 21 (dt tX3_racer 2 rfl) (by decide) (fun _ => ?_) (fun c9 => absurd (nI_le h3 (by decide)) c9)
    refine J_iconst X (nI 2) (dt tX3_racer 16 rfl) (by decide) ?_
    refine J_iload_n X (dt tX3_racer 17 rfl) 1 rfl ?_
    refine J_imulN X (dt tX3_racer 18 rfl) ?_
    refine J_iload_n X (dt tX3_racer 19 rfl) 2 rfl ?_
    refine J_iaddN X (dt tX3_racer 20 rfl) ?_
    refine J_istore_n X (lv2 := [(3, .int (nI ((2 * r) + w))), (0, .ref m), (1, .int (nI r)), (2, .int (nI w))]) (dt tX3_racer 21 rfl) rfl rfl rfl ?_
    refine J_aload_n X (dt tX3_racer 22 rfl) 1 rfl ?_
    refine J_iload_n X (dt tX3_racer 23 rfl) 0 rfl ?_
    refine M_callV (rest := []) X (dt tX3_racer 24 rfl) (c_has l D hd σ ((2 * r) + w) (by omega)) (lw_V q1904 q1906 qs38 q86 q1907) okX3_has rfl rfl ⟨Nat.le_of_ble_eq_true rfl, Nat.le_of_ble_eq_true rfl⟩ rfl (Nat.le_of_ble_eq_true rfl) (Nat.zero_le _) (Nat.zero_le _) ?_
    have kj3 : ∀ v2 : Int32, v2 = (if (m_has σ ((2 * r) + w)) = 0 then (-1) else nI ((2 * r) + w)) → J Γ (mh h0 m ar σ) 0 0 40 [(3, .int (nI ((2 * r) + w))), (0, .ref m), (1, .int (nI r)), (2, .int (nI w))] [.int v2] := by
      intro v2 ev2
      exact J_iret X rr (dt tX3_racer 29 rfl) (Nat.zero_le _) (Nat.zero_le _) (by first | exact ⟨congrArg (fun z => some (Value.int z)) (if_pos h3).symm, rfl⟩ | (subst_vars; exact ⟨congrArg (fun z => some (Value.int z)) (if_pos h3).symm, rfl⟩))
    refine J_if_eq X 39 (dt tX3_racer 25 rfl) (by decide) (fun c1 => ?_) (fun c1 => ?_)
    · refine J_iconst X (-1) (dt tX3_racer 28 rfl) (by decide) ?_
      exact kj3 _ (if_pos c1).symm
    · refine J_iload_n X (dt tX3_racer 26 rfl) 0 rfl ?_
      refine J_goto X (tgt := 40) (dt tX3_racer 27 rfl) (by decide) ?_
      exact kj3 _ (if_neg c1).symm
  · refine J_iload_n X (dt tX3_racer 0 rfl) 1 rfl ?_
    refine J_iconst X (nI 3) (dt tX3_racer 1 rfl) (by decide) ?_
    refine J_icmp_le X 21 (dt tX3_racer 2 rfl) (by decide) (fun c9 => absurd c9 (nI_ge (by omega) (by omega))) (fun _ => ?_)
    refine J_aload_n X (dt tX3_racer 3 rfl) 0 rfl ?_
    refine M_get_all X (dt tX3_racer 4 rfl) ?_
    refine J_bipush X (nI 33) (dt tX3_racer 5 rfl) (by decide) ?_
    refine J_iconst X (nI 2) (dt tX3_racer 6 rfl) (by decide) ?_
    refine J_iload_n X (dt tX3_racer 7 rfl) 1 rfl ?_
    refine J_iconst X (nI 4) (dt tX3_racer 8 rfl) (by decide) ?_
    refine J_isubN X (dt tX3_racer 9 rfl) (by omega) ?_
    refine J_imulN X (dt tX3_racer 10 rfl) ?_
    refine J_iaddN X (dt tX3_racer 11 rfl) ?_
    refine J_iload_n X (dt tX3_racer 12 rfl) 2 rfl ?_
    refine J_iaddN X (dt tX3_racer 13 rfl) ?_
    refine M_ald_all X hd (dt tX3_racer 14 rfl) (by omega) ?_
    exact J_iret X rr (dt tX3_racer 15 rfl) (Nat.zero_le _) (Nat.zero_le _) (by first | exact ⟨congrArg (fun z => some (Value.int z)) (if_neg h3).symm, rfl⟩ | (subst_vars; exact ⟨congrArg (fun z => some (Value.int z)) (if_neg h3).symm, rfl⟩))
abbrev cX3_leaderNow : ByteArray := prog_12_method_16_code
def yX3_leaderNow : MethodName := ⟨RX3, "leaderNow", "()I"⟩
theorem tX3_leaderNow : dtab cX3_leaderNow [(0, .aload_n 0, 1, 1), (1, .getfield 7, 3, 4), (4, .bipush 39, 2, 6), (6, .iaload, 1, 7), (7, .ireturn, 1, 8)] := by unfold dtab; decide +kernel
theorem okX3_leaderNow : okY yX3_leaderNow 0 := by decide +kernel
set_option maxHeartbeats 4000000 in
theorem c_leaderNow (l : Launch) (D : va_G) {h0 : PH} {m : Nat} {ar : Nat → Nat} (hd : md m ar) (σ : MS)   : Ct l D yX3_leaderNow cX3_leaderNow 1 (some .int) (rmM 0 0) [.ref m] (mh h0 m ar σ) (PM h0 m ar (some (.int (m_leaderNow σ))) σ) := by
  refine Ct.of (by decide) rfl (fun Γ X rr hmn => ?_)
  have X : Cx l D cX3_leaderNow RX3 1 (rmM 0 0) Γ := X
  show J Γ (mh h0 m ar σ) 0 0 0 [(0, .ref m)] []
  refine J_aload_n X (dt tX3_leaderNow 0 rfl) 0 rfl ?_
  refine M_get_all X (dt tX3_leaderNow 1 rfl) ?_
  refine J_bipush X (nI 39) (dt tX3_leaderNow 2 rfl) (by decide) ?_
  refine M_ald_all X hd (dt tX3_leaderNow 3 rfl) (by decide) ?_
  exact J_iret X rr (dt tX3_leaderNow 4 rfl) (Nat.zero_le _) (Nat.zero_le _) ⟨rfl, rfl⟩
abbrev cX3_leaderBefore : ByteArray := prog_12_method_17_code
def yX3_leaderBefore : MethodName := ⟨RX3, "leaderBefore", "()I"⟩
theorem tX3_leaderBefore : dtab cX3_leaderBefore [(0, .aload_n 0, 1, 1), (1, .getfield 7, 3, 4), (4, .bipush 84, 2, 6), (6, .iaload, 1, 7), (7, .ifCond .ne 7, 3, 10), (10, .iconst (-1), 1, 11), (11, .goto 20, 3, 14), (14, .aload_n 0, 1, 15), (15, .getfield 7, 3, 18), (18, .bipush 68, 2, 20), (20, .aload_n 0, 1, 21), (21, .getfield 7, 3, 24), (24, .bipush 84, 2, 26), (26, .iaload, 1, 27), (27, .iadd, 1, 28), (28, .iconst 1, 1, 29), (29, .isub, 1, 30), (30, .iaload, 1, 31), (31, .ireturn, 1, 32)] := by unfold dtab; decide +kernel
theorem okX3_leaderBefore : okY yX3_leaderBefore 0 := by decide +kernel
set_option maxHeartbeats 4000000 in
theorem c_leaderBefore (l : Launch) (D : va_G) {h0 : PH} {m : Nat} {ar : Nat → Nat} (hd : md m ar) (σ : MS)  (kp : Nat) (hk : σ.1 0 84 = nI kp) (hkp : kp ≤ 8) : Ct l D yX3_leaderBefore cX3_leaderBefore 1 (some .int) (rmM 0 0) [.ref m] (mh h0 m ar σ) (PM h0 m ar (some (.int (m_leaderBefore σ kp))) σ) := by
  refine Ct.of (by decide) rfl (fun Γ X rr hmn => ?_)
  have X : Cx l D cX3_leaderBefore RX3 1 (rmM 0 0) Γ := X
  show J Γ (mh h0 m ar σ) 0 0 0 [(0, .ref m)] []
  by_cases hz : kp = 0
  · refine J_aload_n X (dt tX3_leaderBefore 0 rfl) 0 rfl ?_
    refine M_get_all X (dt tX3_leaderBefore 1 rfl) ?_
    refine J_bipush X (nI 84) (dt tX3_leaderBefore 2 rfl) (by decide) ?_
    refine M_ald_all X hd (dt tX3_leaderBefore 3 rfl) (by decide) ?_
    refine J_topi hk ?_
    refine J_if_ne X 14 (dt tX3_leaderBefore 4 rfl) (by decide) (fun c9 => absurd ((by rw [hz]; rfl)) c9) (fun _ => ?_)
    refine J_iconst X (-1) (dt tX3_leaderBefore 5 rfl) (by decide) ?_
    refine J_goto X (tgt := 31) (dt tX3_leaderBefore 6 rfl) (by decide) ?_
    exact J_iret X rr (dt tX3_leaderBefore 18 rfl) (Nat.zero_le _) (Nat.zero_le _) (by first | exact ⟨congrArg (fun z => some (Value.int z)) (if_pos hz).symm, rfl⟩ | (subst_vars; exact ⟨congrArg (fun z => some (Value.int z)) (if_pos hz).symm, rfl⟩))
  · refine J_aload_n X (dt tX3_leaderBefore 0 rfl) 0 rfl ?_
    refine M_get_all X (dt tX3_leaderBefore 1 rfl) ?_
    refine J_bipush X (nI 84) (dt tX3_leaderBefore 2 rfl) (by decide) ?_
    refine M_ald_all X hd (dt tX3_leaderBefore 3 rfl) (by decide) ?_
    refine J_topi hk ?_
    refine J_if_ne X 14 (dt tX3_leaderBefore 4 rfl) (by decide) (fun _ => ?_) (fun c9 => absurd c9 (nI_ne0 (by omega) (by omega)))
    refine J_aload_n X (dt tX3_leaderBefore 7 rfl) 0 rfl ?_
    refine M_get_all X (dt tX3_leaderBefore 8 rfl) ?_
    refine J_bipush X (nI 68) (dt tX3_leaderBefore 9 rfl) (by decide) ?_
    refine J_aload_n X (dt tX3_leaderBefore 10 rfl) 0 rfl ?_
    refine M_get_all X (dt tX3_leaderBefore 11 rfl) ?_
    refine J_bipush X (nI 84) (dt tX3_leaderBefore 12 rfl) (by decide) ?_
    refine M_ald_all X hd (dt tX3_leaderBefore 13 rfl) (by decide) ?_
    refine J_topi hk ?_
    refine J_iaddN X (dt tX3_leaderBefore 14 rfl) ?_
    refine J_iconst X (nI 1) (dt tX3_leaderBefore 15 rfl) (by decide) ?_
    refine J_isubN X (dt tX3_leaderBefore 16 rfl) (by omega) ?_
    refine M_ald_all X hd (dt tX3_leaderBefore 17 rfl) (by omega) ?_
    exact J_iret X rr (dt tX3_leaderBefore 18 rfl) (Nat.zero_le _) (Nat.zero_le _) (by first | exact ⟨congrArg (fun z => some (Value.int z)) (if_neg hz).symm, rfl⟩ | (subst_vars; exact ⟨congrArg (fun z => some (Value.int z)) (if_neg hz).symm, rfl⟩))
def m_sh (a : Nat → Int32) : Nat → Nat → Int32
  | 0 => a
  | i + 1 => upd (upd (m_sh a i) (68 + i) (m_sh a i (68 + i + 1))) (76 + i) (m_sh a i (76 + i + 1))
theorem m_sh_out (a : Nat → Int32) {j : Nat} (h : j < 68 ∨ 84 ≤ j) : ∀ i, i ≤ 7 → m_sh a i j = a j
  | 0, _ => rfl
  | i + 1, hi => by
    show upd (upd _ _ _) _ _ j = _
    rw [pk_un (by omega), pk_un (by omega)]
    exact m_sh_out a h i (by omega)
def m_ap0 (a : Nat → Int32) (c : Nat) : Nat → Int32 := upd (upd (upd (upd a (68 + c) (a 39)) (76 + c) (a 0)) 84 (nI (c + 1))) 85 (a 85 + 1)
def m_append (a : Nat → Int32) (kp : Nat) : Nat → Int32 := if kp = 8 then m_ap0 (upd (m_sh a 7) 84 (nI 7)) 7 else m_ap0 a kp
def m_putsR (σ : MS) (kp : Nat) : Int32 := if m_leaderNow σ = m_leaderBefore σ kp then 0 else 1
def m_putsT (σ : MS) (kp : Nat) : MS := if m_leaderNow σ = m_leaderBefore σ kp then σ else sA σ 0 (m_append (σ.1 0) kp)
theorem m_putsR_B (σ : MS) (kp : Nat) : isB (m_putsR σ kp) := isB_ite isB_0 isB_1
abbrev cX3_putsDown : ByteArray := prog_12_method_18_code
def yX3_putsDown : MethodName := ⟨RX3, "putsDown", "()Z"⟩
theorem tX3_putsDown : dtab cX3_putsDown [(0, .aload_n 0, 1, 1), (1, .invokevirtual 61, 3, 4), (4, .aload_n 0, 1, 5), (5, .invokevirtual 65, 3, 8), (8, .if_icmp .ne 5, 3, 11), (11, .iconst 0, 1, 12), (12, .ireturn, 1, 13), (13, .aload_n 0, 1, 14), (14, .getfield 7, 3, 17), (17, .bipush 84, 2, 19), (19, .iaload, 1, 20), (20, .bipush 8, 2, 22), (22, .if_icmp .ne 68, 3, 25), (25, .iconst 0, 1, 26), (26, .istore_n 1, 1, 27), (27, .iload_n 1, 1, 28), (28, .bipush 7, 2, 30), (30, .if_icmp .ge 49, 3, 33), (33, .aload_n 0, 1, 34), (34, .getfield 7, 3, 37), (37, .bipush 68, 2, 39), (39, .iload_n 1, 1, 40), (40, .iadd, 1, 41), (41, .aload_n 0, 1, 42), (42, .getfield 7, 3, 45), (45, .bipush 68, 2, 47), (47, .iload_n 1, 1, 48), (48, .iadd, 1, 49), (49, .iconst 1, 1, 50), (50, .iadd, 1, 51), (51, .iaload, 1, 52), (52, .iastore, 1, 53), (53, .aload_n 0, 1, 54), (54, .getfield 7, 3, 57), (57, .bipush 76, 2, 59), (59, .iload_n 1, 1, 60), (60, .iadd, 1, 61), (61, .aload_n 0, 1, 62), (62, .getfield 7, 3, 65), (65, .bipush 76, 2, 67), (67, .iload_n 1, 1, 68), (68, .iadd, 1, 69), (69, .iconst 1, 1, 70), (70, .iadd, 1, 71), (71, .iaload, 1, 72), (72, .iastore, 1, 73), (73, .iinc 1 1, 3, 76), (76, .goto (-49), 3, 79), (79, .aload_n 0, 1, 80), (80, .getfield 7, 3, 83), (83, .bipush 84, 2, 85), (85, .dup2, 1, 86), (86, .iaload, 1, 87), (87, .iconst 1, 1, 88), (88, .isub, 1, 89), (89, .iastore, 1, 90), (90, .aload_n 0, 1, 91), (91, .getfield 7, 3, 94), (94, .bipush 68, 2, 96), (96, .aload_n 0, 1, 97), (97, .getfield 7, 3, 100), (100, .bipush 84, 2, 102), (102, .iaload, 1, 103), (103, .iadd, 1, 104), (104, .aload_n 0, 1, 105), (105, .invokevirtual 61, 3, 108), (108, .iastore, 1, 109), (109, .aload_n 0, 1, 110), (110, .getfield 7, 3, 113), (113, .bipush 76, 2, 115), (115, .aload_n 0, 1, 116), (116, .getfield 7, 3, 119), (119, .bipush 84, 2, 121), (121, .iaload, 1, 122), (122, .iadd, 1, 123), (123, .aload_n 0, 1, 124), (124, .getfield 7, 3, 127), (127, .iconst 0, 1, 128), (128, .iaload, 1, 129), (129, .iastore, 1, 130), (130, .aload_n 0, 1, 131), (131, .getfield 7, 3, 134), (134, .bipush 84, 2, 136), (136, .dup2, 1, 137), (137, .iaload, 1, 138), (138, .iconst 1, 1, 139), (139, .iadd, 1, 140), (140, .iastore, 1, 141), (141, .aload_n 0, 1, 142), (142, .getfield 7, 3, 145), (145, .bipush 85, 2, 147), (147, .dup2, 1, 148), (148, .iaload, 1, 149), (149, .iconst 1, 1, 150), (150, .iadd, 1, 151), (151, .iastore, 1, 152), (152, .iconst 1, 1, 153), (153, .ireturn, 1, 154)] := by unfold dtab; decide +kernel
theorem okX3_putsDown : okY yX3_putsDown 0 := by decide +kernel
set_option maxHeartbeats 4000000 in
theorem c_putsDown (l : Launch) (D : va_G) {h0 : PH} {m : Nat} {ar : Nat → Nat} (hd : md m ar) (σ : MS)  (kp : Nat) (hk : σ.1 0 84 = nI kp) (hkp : kp ≤ 8) : Ct l D yX3_putsDown cX3_putsDown 2 (some .boolean) (rmM 1 20) [.ref m] (mh h0 m ar σ) (PM h0 m ar (some (.int (m_putsR σ kp))) (m_putsT σ kp)) := by
  refine Ct.of (by decide) rfl (fun Γ X rr hmn => ?_)
  have X : Cx l D cX3_putsDown RX3 2 (rmM 1 20) Γ := X
  show J Γ (mh h0 m ar σ) 0 0 0 [(0, .ref m)] []
  refine J_aload_n X (dt tX3_putsDown 0 rfl) 0 rfl ?_
  refine M_callV (rest := []) X (dt tX3_putsDown 1 rfl) (c_leaderNow l D hd σ ) (lw_V q1937 q1939 qs46 q86 q1940) okX3_leaderNow rfl rfl ⟨Nat.le_of_ble_eq_true rfl, Nat.le_of_ble_eq_true rfl⟩ rfl (Nat.le_of_ble_eq_true rfl) (Nat.zero_le _) (Nat.zero_le _) ?_
  refine J_aload_n X (dt tX3_putsDown 2 rfl) 0 rfl ?_
  refine M_callV (rest := [.int (m_leaderNow σ)]) X (dt tX3_putsDown 3 rfl) (c_leaderBefore l D hd σ kp hk hkp) (lw_V q1941 q1943 qs47 q86 q1944) okX3_leaderBefore rfl rfl ⟨Nat.le_of_ble_eq_true rfl, Nat.le_of_ble_eq_true rfl⟩ rfl (Nat.le_of_ble_eq_true rfl) (Nat.zero_le _) (Nat.zero_le _) ?_
  refine J_icmp_ne X 13 (dt tX3_putsDown 4 rfl) (by decide) (fun c1 => ?_) (fun c1 => ?_)
  · by_cases h8 : kp = 8
    · subst h8
      refine J_aload_n X (dt tX3_putsDown 7 rfl) 0 rfl ?_
      refine M_get_all X (dt tX3_putsDown 8 rfl) ?_
      refine J_bipush X (nI 84) (dt tX3_putsDown 9 rfl) (by decide) ?_
      refine M_ald_all X hd (dt tX3_putsDown 10 rfl) (by decide) ?_
      refine J_topi hk ?_
      refine J_bipush X (nI 8) (dt tX3_putsDown 11 rfl) (by decide) ?_
      refine J_icmp_ne X 90 (dt tX3_putsDown 12 rfl) (by decide) (fun c9 => absurd (rfl) c9) (fun _ => ?_)
      refine J_iconst X (nI 0) (dt tX3_putsDown 13 rfl) (by decide) ?_
      refine J_istore_n X (lv2 := [(1, .int (nI 0)), (0, .ref m)]) (dt tX3_putsDown 14 rfl) rfl rfl rfl ?_
      refine J_sub [1, 0] rfl ?_
      refine J_heap (h2 := mh h0 m ar (sA σ 0 (m_sh (σ.1 0) 0))) (congrArg (mh h0 m ar) (sA_id σ 0).symm) ?_
      refine up_to 7 (P := fun i2 => J Γ (mh h0 m ar (sA σ 0 (m_sh (σ.1 0) i2))) 0 0 27 [(0, .ref m), (1, .int (nI i2))] []) ?_ ?_
      · show J Γ (mh h0 m ar (sA σ 0 (m_sh (σ.1 0) 7))) 0 0 27 [(0, .ref m), (1, .int (nI 7))] []
        refine J_iload_n X (dt tX3_putsDown 15 rfl) 1 rfl ?_
        refine J_bipush X (nI 7) (dt tX3_putsDown 16 rfl) (by decide) ?_
        refine J_icmp_ge X 79 (dt tX3_putsDown 17 rfl) (by decide) (fun _ => ?_) (fun c9 => absurd (nI_le (Nat.le_refl 7) (by decide)) c9)
        refine J_aload_n X (dt tX3_putsDown 48 rfl) 0 rfl ?_
        refine M_get_all X (dt tX3_putsDown 49 rfl) ?_
        refine J_bipush X (nI 84) (dt tX3_putsDown 50 rfl) (by decide) ?_
        refine J_dup2 X (dt tX3_putsDown 51 rfl) rfl rfl ?_
        refine M_ald_all X hd (dt tX3_putsDown 52 rfl) (by decide) ?_
        refine J_topi ((m_sh_out (σ.1 0) (Or.inr (Nat.le_refl 84)) 7 (Nat.le_refl 7)).trans hk) ?_
        refine J_iconst X (nI 1) (dt tX3_putsDown 53 rfl) (by decide) ?_
        refine J_isubN X (dt tX3_putsDown 54 rfl) (by omega) ?_
        refine M_ast_all X hd (dt tX3_putsDown 55 rfl) (by decide) ?_
        refine J_heap (h2 := mh h0 m ar (sA σ 0 (upd (m_sh (σ.1 0) 7) 84 (nI (8 - 1))))) (congrArg (mh h0 m ar) (sA_sA _ _ _ _)) ?_
        refine J_aload_n X (dt tX3_putsDown 56 rfl) 0 rfl ?_
        refine M_get_all X (dt tX3_putsDown 57 rfl) ?_
        refine J_bipush X (nI 68) (dt tX3_putsDown 58 rfl) (by decide) ?_
        refine J_aload_n X (dt tX3_putsDown 59 rfl) 0 rfl ?_
        refine M_get_all X (dt tX3_putsDown 60 rfl) ?_
        refine J_bipush X (nI 84) (dt tX3_putsDown 61 rfl) (by decide) ?_
        refine M_ald_all X hd (dt tX3_putsDown 62 rfl) (by decide) ?_
        refine J_iaddN X (dt tX3_putsDown 63 rfl) ?_
        refine J_aload_n X (dt tX3_putsDown 64 rfl) 0 rfl ?_
        refine M_callV (rest := [.int (nI (68 + (8 - 1))), .ref (ar 0)]) X (dt tX3_putsDown 65 rfl) (c_leaderNow l D hd (sA σ 0 (upd (m_sh (σ.1 0) 7) 84 (nI (8 - 1)))) ) (lw_V q1937 q1939 qs46 q86 q1940) okX3_leaderNow rfl rfl ⟨Nat.le_of_ble_eq_true rfl, Nat.le_of_ble_eq_true rfl⟩ rfl (Nat.le_of_ble_eq_true rfl) (Nat.zero_le _) (Nat.zero_le _) ?_
        refine M_ast_all X hd (dt tX3_putsDown 66 rfl) (by decide) ?_
        refine J_heap (h2 := mh h0 m ar (sA σ 0 (upd (upd (m_sh (σ.1 0) 7) 84 (nI (8 - 1))) (68 + (8 - 1)) (m_leaderNow (sA σ 0 (upd (m_sh (σ.1 0) 7) 84 (nI (8 - 1)))))))) (congrArg (mh h0 m ar) (sA_sA _ _ _ _)) ?_
        refine J_aload_n X (dt tX3_putsDown 67 rfl) 0 rfl ?_
        refine M_get_all X (dt tX3_putsDown 68 rfl) ?_
        refine J_bipush X (nI 76) (dt tX3_putsDown 69 rfl) (by decide) ?_
        refine J_aload_n X (dt tX3_putsDown 70 rfl) 0 rfl ?_
        refine M_get_all X (dt tX3_putsDown 71 rfl) ?_
        refine J_bipush X (nI 84) (dt tX3_putsDown 72 rfl) (by decide) ?_
        refine M_ald_all X hd (dt tX3_putsDown 73 rfl) (by decide) ?_
        refine J_iaddN X (dt tX3_putsDown 74 rfl) ?_
        refine J_aload_n X (dt tX3_putsDown 75 rfl) 0 rfl ?_
        refine M_get_all X (dt tX3_putsDown 76 rfl) ?_
        refine J_iconst X (nI 0) (dt tX3_putsDown 77 rfl) (by decide) ?_
        refine M_ald_all X hd (dt tX3_putsDown 78 rfl) (by decide) ?_
        refine M_ast_all X hd (dt tX3_putsDown 79 rfl) (by decide) ?_
        refine J_heap (h2 := mh h0 m ar (sA σ 0 (upd (upd (upd (m_sh (σ.1 0) 7) 84 (nI (8 - 1))) (68 + (8 - 1)) (m_leaderNow (sA σ 0 (upd (m_sh (σ.1 0) 7) 84 (nI (8 - 1)))))) (76 + (8 - 1)) (m_sh (σ.1 0) 7 0)))) (congrArg (mh h0 m ar) (sA_sA _ _ _ _)) ?_
        refine J_aload_n X (dt tX3_putsDown 80 rfl) 0 rfl ?_
        refine M_get_all X (dt tX3_putsDown 81 rfl) ?_
        refine J_bipush X (nI 84) (dt tX3_putsDown 82 rfl) (by decide) ?_
        refine J_dup2 X (dt tX3_putsDown 83 rfl) rfl rfl ?_
        refine M_ald_all X hd (dt tX3_putsDown 84 rfl) (by decide) ?_
        refine J_iconst X (nI 1) (dt tX3_putsDown 85 rfl) (by decide) ?_
        refine J_iaddN X (dt tX3_putsDown 86 rfl) ?_
        refine M_ast_all X hd (dt tX3_putsDown 87 rfl) (by decide) ?_
        refine J_heap (h2 := mh h0 m ar (sA σ 0 (upd (upd (upd (upd (m_sh (σ.1 0) 7) 84 (nI (8 - 1))) (68 + (8 - 1)) (m_leaderNow (sA σ 0 (upd (m_sh (σ.1 0) 7) 84 (nI (8 - 1)))))) (76 + (8 - 1)) (m_sh (σ.1 0) 7 0)) 84 (nI ((8 - 1) + 1))))) (congrArg (mh h0 m ar) (sA_sA _ _ _ _)) ?_
        refine J_aload_n X (dt tX3_putsDown 88 rfl) 0 rfl ?_
        refine M_get_all X (dt tX3_putsDown 89 rfl) ?_
        refine J_bipush X (nI 85) (dt tX3_putsDown 90 rfl) (by decide) ?_
        refine J_dup2 X (dt tX3_putsDown 91 rfl) rfl rfl ?_
        refine M_ald_all X hd (dt tX3_putsDown 92 rfl) (by decide) ?_
        refine J_iconst X (nI 1) (dt tX3_putsDown 93 rfl) (by decide) ?_
        refine J_iadd X (dt tX3_putsDown 94 rfl) ?_
        refine M_ast_all X hd (dt tX3_putsDown 95 rfl) (by decide) ?_
        refine J_heap (h2 := mh h0 m ar (sA σ 0 (upd (upd (upd (upd (upd (m_sh (σ.1 0) 7) 84 (nI (8 - 1))) (68 + (8 - 1)) (m_leaderNow (sA σ 0 (upd (m_sh (σ.1 0) 7) 84 (nI (8 - 1)))))) (76 + (8 - 1)) (m_sh (σ.1 0) 7 0)) 84 (nI ((8 - 1) + 1))) 85 ((m_sh (σ.1 0) 7 85) + (nI 1))))) (congrArg (mh h0 m ar) (sA_sA _ _ _ _)) ?_
        refine J_iconst X (nI 1) (dt tX3_putsDown 96 rfl) (by decide) ?_
        exact J_zret X rr (dt tX3_putsDown 97 rfl) (Nat.zero_le _) (Nat.zero_le _) (isB.nar (Or.inr rfl)) (by exact ⟨congrArg (fun z => some (Value.int z)) (if_neg c1).symm, congrArg (mh h0 m ar) ((if_neg c1).trans (congrArg (sA σ 0) (if_pos rfl))).symm⟩)
      · intro i2 hi2 ih
        refine J_iload_n X (dt tX3_putsDown 15 rfl) 1 rfl ?_
        refine J_bipush X (nI 7) (dt tX3_putsDown 16 rfl) (by decide) ?_
        refine J_icmp_ge X 79 (dt tX3_putsDown 17 rfl) (by decide) (fun c9 => absurd c9 (nI_ge hi2 (by decide))) (fun _ => ?_)
        refine J_aload_n X (dt tX3_putsDown 18 rfl) 0 rfl ?_
        refine M_get_all X (dt tX3_putsDown 19 rfl) ?_
        refine J_bipush X (nI 68) (dt tX3_putsDown 20 rfl) (by decide) ?_
        refine J_iload_n X (dt tX3_putsDown 21 rfl) 1 rfl ?_
        refine J_iaddN X (dt tX3_putsDown 22 rfl) ?_
        refine J_aload_n X (dt tX3_putsDown 23 rfl) 0 rfl ?_
        refine M_get_all X (dt tX3_putsDown 24 rfl) ?_
        refine J_bipush X (nI 68) (dt tX3_putsDown 25 rfl) (by decide) ?_
        refine J_iload_n X (dt tX3_putsDown 26 rfl) 1 rfl ?_
        refine J_iaddN X (dt tX3_putsDown 27 rfl) ?_
        refine J_iconst X (nI 1) (dt tX3_putsDown 28 rfl) (by decide) ?_
        refine J_iaddN X (dt tX3_putsDown 29 rfl) ?_
        refine M_ald_all X hd (dt tX3_putsDown 30 rfl) (by omega) ?_
        refine M_ast_all X hd (dt tX3_putsDown 31 rfl) (by omega) ?_
        refine J_heap (h2 := mh h0 m ar (sA σ 0 (upd (m_sh (σ.1 0) i2) (68 + i2) (m_sh (σ.1 0) i2 (68 + i2 + 1))))) (congrArg (mh h0 m ar) (sA_sA _ _ _ _)) ?_
        refine J_aload_n X (dt tX3_putsDown 32 rfl) 0 rfl ?_
        refine M_get_all X (dt tX3_putsDown 33 rfl) ?_
        refine J_bipush X (nI 76) (dt tX3_putsDown 34 rfl) (by decide) ?_
        refine J_iload_n X (dt tX3_putsDown 35 rfl) 1 rfl ?_
        refine J_iaddN X (dt tX3_putsDown 36 rfl) ?_
        refine J_aload_n X (dt tX3_putsDown 37 rfl) 0 rfl ?_
        refine M_get_all X (dt tX3_putsDown 38 rfl) ?_
        refine J_bipush X (nI 76) (dt tX3_putsDown 39 rfl) (by decide) ?_
        refine J_iload_n X (dt tX3_putsDown 40 rfl) 1 rfl ?_
        refine J_iaddN X (dt tX3_putsDown 41 rfl) ?_
        refine J_iconst X (nI 1) (dt tX3_putsDown 42 rfl) (by decide) ?_
        refine J_iaddN X (dt tX3_putsDown 43 rfl) ?_
        refine M_ald_all X hd (dt tX3_putsDown 44 rfl) (by omega) ?_
        refine J_topi (show upd (m_sh (σ.1 0) i2) (68 + i2) (m_sh (σ.1 0) i2 (68 + i2 + 1)) (76 + i2 + 1) = (m_sh (σ.1 0) i2) (76 + i2 + 1) from pk_un (by omega)) ?_
        refine M_ast_all X hd (dt tX3_putsDown 45 rfl) (by omega) ?_
        refine J_heap (h2 := mh h0 m ar (sA σ 0 (upd (upd (m_sh (σ.1 0) i2) (68 + i2) (m_sh (σ.1 0) i2 (68 + i2 + 1))) (76 + i2) (m_sh (σ.1 0) i2 (76 + i2 + 1))))) (congrArg (mh h0 m ar) (sA_sA _ _ _ _)) ?_
        refine J_iinc X (lv2 := [(1, .int (nI (i2 + 1))), (0, .ref m)]) (dt tX3_putsDown 46 rfl) 1 (nI (i2 + 1)) rfl (nI_add i2 1) rfl rfl ?_
        refine J_goto X (tgt := 27) (dt tX3_putsDown 47 rfl) (by decide) ?_
        refine J_sub [1, 0] rfl ?_
        exact ih
    · refine J_aload_n X (dt tX3_putsDown 7 rfl) 0 rfl ?_
      refine M_get_all X (dt tX3_putsDown 8 rfl) ?_
      refine J_bipush X (nI 84) (dt tX3_putsDown 9 rfl) (by decide) ?_
      refine M_ald_all X hd (dt tX3_putsDown 10 rfl) (by decide) ?_
      refine J_topi hk ?_
      refine J_bipush X (nI 8) (dt tX3_putsDown 11 rfl) (by decide) ?_
      refine J_icmp_ne X 90 (dt tX3_putsDown 12 rfl) (by decide) (fun _ => ?_) (fun c9 => absurd c9 ((fun z => h8 ((nI_eq (by omega) (by decide)).mp z))))
      refine J_aload_n X (dt tX3_putsDown 56 rfl) 0 rfl ?_
      refine M_get_all X (dt tX3_putsDown 57 rfl) ?_
      refine J_bipush X (nI 68) (dt tX3_putsDown 58 rfl) (by decide) ?_
      refine J_aload_n X (dt tX3_putsDown 59 rfl) 0 rfl ?_
      refine M_get_all X (dt tX3_putsDown 60 rfl) ?_
      refine J_bipush X (nI 84) (dt tX3_putsDown 61 rfl) (by decide) ?_
      refine M_ald_all X hd (dt tX3_putsDown 62 rfl) (by decide) ?_
      refine J_topi hk ?_
      refine J_iaddN X (dt tX3_putsDown 63 rfl) ?_
      refine J_aload_n X (dt tX3_putsDown 64 rfl) 0 rfl ?_
      refine M_callV (rest := [.int (nI (68 + kp)), .ref (ar 0)]) X (dt tX3_putsDown 65 rfl) (c_leaderNow l D hd σ ) (lw_V q1937 q1939 qs46 q86 q1940) okX3_leaderNow rfl rfl ⟨Nat.le_of_ble_eq_true rfl, Nat.le_of_ble_eq_true rfl⟩ rfl (Nat.le_of_ble_eq_true rfl) (Nat.zero_le _) (Nat.zero_le _) ?_
      refine M_ast_all X hd (dt tX3_putsDown 66 rfl) (by omega) ?_
      refine J_aload_n X (dt tX3_putsDown 67 rfl) 0 rfl ?_
      refine M_get_all X (dt tX3_putsDown 68 rfl) ?_
      refine J_bipush X (nI 76) (dt tX3_putsDown 69 rfl) (by decide) ?_
      refine J_aload_n X (dt tX3_putsDown 70 rfl) 0 rfl ?_
      refine M_get_all X (dt tX3_putsDown 71 rfl) ?_
      refine J_bipush X (nI 84) (dt tX3_putsDown 72 rfl) (by decide) ?_
      refine M_ald_all X hd (dt tX3_putsDown 73 rfl) (by decide) ?_
      refine J_topi (show upd (σ.1 0) (68 + kp) (m_leaderNow σ) 84 = (σ.1 0) 84 from pk_un (by omega)) ?_
      refine J_topi hk ?_
      refine J_iaddN X (dt tX3_putsDown 74 rfl) ?_
      refine J_aload_n X (dt tX3_putsDown 75 rfl) 0 rfl ?_
      refine M_get_all X (dt tX3_putsDown 76 rfl) ?_
      refine J_iconst X (nI 0) (dt tX3_putsDown 77 rfl) (by decide) ?_
      refine M_ald_all X hd (dt tX3_putsDown 78 rfl) (by decide) ?_
      refine J_topi (show upd (σ.1 0) (68 + kp) (m_leaderNow σ) 0 = (σ.1 0) 0 from pk_un (by omega)) ?_
      refine M_ast_all X hd (dt tX3_putsDown 79 rfl) (by omega) ?_
      refine J_heap (h2 := mh h0 m ar (sA σ 0 (upd (upd (σ.1 0) (68 + kp) (m_leaderNow σ)) (76 + kp) (σ.1 0 0)))) (congrArg (mh h0 m ar) (sA_sA _ _ _ _)) ?_
      refine J_aload_n X (dt tX3_putsDown 80 rfl) 0 rfl ?_
      refine M_get_all X (dt tX3_putsDown 81 rfl) ?_
      refine J_bipush X (nI 84) (dt tX3_putsDown 82 rfl) (by decide) ?_
      refine J_dup2 X (dt tX3_putsDown 83 rfl) rfl rfl ?_
      refine M_ald_all X hd (dt tX3_putsDown 84 rfl) (by decide) ?_
      refine J_topi (show upd (upd (σ.1 0) (68 + kp) (m_leaderNow σ)) (76 + kp) (σ.1 0 0) 84 = (upd (σ.1 0) (68 + kp) (m_leaderNow σ)) 84 from pk_un (by omega)) ?_
      refine J_topi (show upd (σ.1 0) (68 + kp) (m_leaderNow σ) 84 = (σ.1 0) 84 from pk_un (by omega)) ?_
      refine J_topi hk ?_
      refine J_iconst X (nI 1) (dt tX3_putsDown 85 rfl) (by decide) ?_
      refine J_iaddN X (dt tX3_putsDown 86 rfl) ?_
      refine M_ast_all X hd (dt tX3_putsDown 87 rfl) (by decide) ?_
      refine J_heap (h2 := mh h0 m ar (sA σ 0 (upd (upd (upd (σ.1 0) (68 + kp) (m_leaderNow σ)) (76 + kp) (σ.1 0 0)) 84 (nI (kp + 1))))) (congrArg (mh h0 m ar) (sA_sA _ _ _ _)) ?_
      refine J_aload_n X (dt tX3_putsDown 88 rfl) 0 rfl ?_
      refine M_get_all X (dt tX3_putsDown 89 rfl) ?_
      refine J_bipush X (nI 85) (dt tX3_putsDown 90 rfl) (by decide) ?_
      refine J_dup2 X (dt tX3_putsDown 91 rfl) rfl rfl ?_
      refine M_ald_all X hd (dt tX3_putsDown 92 rfl) (by decide) ?_
      refine J_topi (show upd (upd (σ.1 0) (68 + kp) (m_leaderNow σ)) (76 + kp) (σ.1 0 0) 85 = (upd (σ.1 0) (68 + kp) (m_leaderNow σ)) 85 from pk_un (by omega)) ?_
      refine J_topi (show upd (σ.1 0) (68 + kp) (m_leaderNow σ) 85 = (σ.1 0) 85 from pk_un (by omega)) ?_
      refine J_iconst X (nI 1) (dt tX3_putsDown 93 rfl) (by decide) ?_
      refine J_iadd X (dt tX3_putsDown 94 rfl) ?_
      refine M_ast_all X hd (dt tX3_putsDown 95 rfl) (by decide) ?_
      refine J_heap (h2 := mh h0 m ar (sA σ 0 (upd (upd (upd (upd (σ.1 0) (68 + kp) (m_leaderNow σ)) (76 + kp) (σ.1 0 0)) 84 (nI (kp + 1))) 85 ((σ.1 0 85) + (nI 1))))) (congrArg (mh h0 m ar) (sA_sA _ _ _ _)) ?_
      refine J_iconst X (nI 1) (dt tX3_putsDown 96 rfl) (by decide) ?_
      exact J_zret X rr (dt tX3_putsDown 97 rfl) (Nat.zero_le _) (Nat.zero_le _) (isB.nar (Or.inr rfl)) (by exact ⟨congrArg (fun z => some (Value.int z)) (if_neg c1).symm, congrArg (mh h0 m ar) ((if_neg c1).trans (congrArg (sA σ 0) (if_neg h8))).symm⟩)
  · refine J_iconst X (nI 0) (dt tX3_putsDown 5 rfl) (by decide) ?_
    exact J_zret X rr (dt tX3_putsDown 6 rfl) (Nat.zero_le _) (Nat.zero_le _) (isB.nar (Or.inl rfl)) (by exact ⟨congrArg (fun z => some (Value.int z)) (if_pos c1).symm, congrArg (mh h0 m ar) (if_pos c1).symm⟩)
