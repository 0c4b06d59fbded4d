/-! printed by gen/modelm.py -/
set_option maxRecDepth 100000
theorem q1881 : (Jvm.Cond.methodLink "LeadRacesModel" (106 : Nat) ({ cls := "LeadRacesModel", name := "keep", desc := "()V" } : Jvm.MethodName)) ∈ lw_all := lw_g (lw_at lw_m8 133 rfl) rfl
theorem q1883 : (Jvm.Cond.instanceMethod ({ cls := "LeadRacesModel", name := "keep", desc := "()V" } : Jvm.MethodName)) ∈ lw_all := lw_g (lw_at lw_m8 135 rfl) rfl
theorem q1884 : (Jvm.Cond.code ({ cls := "LeadRacesModel", name := "keep", desc := "()V" } : Jvm.MethodName) prog_12_method_4_code (2 : Nat) (Option.none : Option Jvm.ClassFile.FieldType)) ∈ lw_all := lw_g (lw_at lw_m8 136 rfl) rfl
theorem q1885 : (Jvm.Cond.methodLink "LeadRacesModel" (109 : Nat) ({ cls := "LeadRacesModel", name := "doCome", desc := "(III)I" } : Jvm.MethodName)) ∈ lw_all := lw_g (lw_at lw_m8 137 rfl) rfl
theorem q1887 : (Jvm.Cond.instanceMethod ({ cls := "LeadRacesModel", name := "doCome", desc := "(III)I" } : Jvm.MethodName)) ∈ lw_all := lw_g (lw_at lw_m8 139 rfl) rfl
theorem q1888 : (Jvm.Cond.code ({ cls := "LeadRacesModel", name := "doCome", desc := "(III)I" } : Jvm.MethodName) prog_12_method_21_code (5 : Nat) (Option.some Jvm.ClassFile.FieldType.int)) ∈ lw_all := lw_g (lw_at lw_m8 140 rfl) rfl
theorem q1945 : (Jvm.Cond.methodLink "LeadRacesModel" (113 : Nat) ({ cls := "LeadRacesModel", name := "changed", desc := "(I)I" } : Jvm.MethodName)) ∈ lw_all := lw_g (lw_at lw_m8 197 rfl) rfl
theorem q1947 : (Jvm.Cond.instanceMethod ({ cls := "LeadRacesModel", name := "changed", desc := "(I)I" } : Jvm.MethodName)) ∈ lw_all := lw_g (lw_at lw_m8 199 rfl) rfl
theorem q1948 : (Jvm.Cond.code ({ cls := "LeadRacesModel", name := "changed", desc := "(I)I" } : Jvm.MethodName) prog_12_method_6_code (3 : Nat) (Option.some Jvm.ClassFile.FieldType.int)) ∈ lw_all := lw_g (lw_at lw_m8 200 rfl) rfl
theorem q1953 : (Jvm.Cond.methodLink "LeadRacesModel" (117 : Nat) ({ cls := "LeadRacesModel", name := "doGo", desc := "(I)I" } : Jvm.MethodName)) ∈ lw_all := lw_g (lw_at lw_m8 205 rfl) rfl
theorem q1955 : (Jvm.Cond.instanceMethod ({ cls := "LeadRacesModel", name := "doGo", desc := "(I)I" } : Jvm.MethodName)) ∈ lw_all := lw_g (lw_at lw_m8 207 rfl) rfl
theorem q1956 : (Jvm.Cond.code ({ cls := "LeadRacesModel", name := "doGo", desc := "(I)I" } : Jvm.MethodName) prog_12_method_22_code (3 : Nat) (Option.some Jvm.ClassFile.FieldType.int)) ∈ lw_all := lw_g (lw_at lw_m8 208 rfl) rfl
theorem q1965 : (Jvm.Cond.methodLink "LeadRacesModel" (120 : Nat) ({ cls := "LeadRacesModel", name := "doSpeed", desc := "(II)I" } : Jvm.MethodName)) ∈ lw_all := lw_g (lw_at lw_m8 217 rfl) rfl
theorem q1967 : (Jvm.Cond.instanceMethod ({ cls := "LeadRacesModel", name := "doSpeed", desc := "(II)I" } : Jvm.MethodName)) ∈ lw_all := lw_g (lw_at lw_m8 219 rfl) rfl
theorem q1968 : (Jvm.Cond.code ({ cls := "LeadRacesModel", name := "doSpeed", desc := "(II)I" } : Jvm.MethodName) prog_12_method_23_code (5 : Nat) (Option.some Jvm.ClassFile.FieldType.int)) ∈ lw_all := lw_g (lw_at lw_m8 220 rfl) rfl
theorem q1973 : (Jvm.Cond.methodLink "LeadRacesModel" (123 : Nat) ({ cls := "LeadRacesModel", name := "doJump", desc := "(II)I" } : Jvm.MethodName)) ∈ lw_all := lw_g (lw_at lw_m8 225 rfl) rfl
theorem q1975 : (Jvm.Cond.instanceMethod ({ cls := "LeadRacesModel", name := "doJump", desc := "(II)I" } : Jvm.MethodName)) ∈ lw_all := lw_g (lw_at lw_m8 227 rfl) rfl
theorem q1976 : (Jvm.Cond.code ({ cls := "LeadRacesModel", name := "doJump", desc := "(II)I" } : Jvm.MethodName) prog_12_method_24_code (4 : Nat) (Option.some Jvm.ClassFile.FieldType.int)) ∈ lw_all := lw_g (lw_at lw_m8 228 rfl) rfl
theorem q1986 : (Jvm.Cond.methodLink "LeadRacesModel" (126 : Nat) ({ cls := "LeadRacesModel", name := "doPause", desc := "(I)I" } : Jvm.MethodName)) ∈ lw_all := lw_g (lw_at lw_m8 238 rfl) rfl
theorem q1988 : (Jvm.Cond.instanceMethod ({ cls := "LeadRacesModel", name := "doPause", desc := "(I)I" } : Jvm.MethodName)) ∈ lw_all := lw_g (lw_at lw_m9 0 rfl) rfl
theorem q1989 : (Jvm.Cond.code ({ cls := "LeadRacesModel", name := "doPause", desc := "(I)I" } : Jvm.MethodName) prog_12_method_25_code (4 : Nat) (Option.some Jvm.ClassFile.FieldType.int)) ∈ lw_all := lw_g (lw_at lw_m9 1 rfl) rfl
theorem q2000 : (Jvm.Cond.constant "LeadRacesModel" (131 : Nat) (-10000004 : Int32)) ∈ lw_all := lw_g (lw_at lw_m9 12 rfl) rfl
theorem q2010 : (Jvm.Cond.methodLink "LeadRacesModel" (137 : Nat) ({ cls := "LeadRacesModel", name := "found", desc := "(I)I" } : Jvm.MethodName)) ∈ lw_all := lw_g (lw_at lw_m9 22 rfl) rfl
theorem q2011 : (Jvm.Cond.static ({ cls := "LeadRacesModel", name := "found", desc := "(I)I" } : Jvm.MethodName)) ∈ lw_all := lw_g (lw_at lw_m9 23 rfl) rfl
theorem q2012 : (Jvm.Cond.code ({ cls := "LeadRacesModel", name := "found", desc := "(I)I" } : Jvm.MethodName) prog_12_method_34_code (1 : Nat) (Option.some Jvm.ClassFile.FieldType.int)) ∈ lw_all := lw_g (lw_at lw_m9 24 rfl) rfl
theorem q2025 : (Jvm.Cond.methodLink "LeadRacesModel" (140 : Nat) ({ cls := "LeadRacesModel", name := "runsOfAll", desc := "()I" } : Jvm.MethodName)) ∈ lw_all := lw_g (lw_at lw_m9 37 rfl) rfl
theorem q2027 : (Jvm.Cond.instanceMethod ({ cls := "LeadRacesModel", name := "runsOfAll", desc := "()I" } : Jvm.MethodName)) ∈ lw_all := lw_g (lw_at lw_m9 39 rfl) rfl
theorem q2028 : (Jvm.Cond.code ({ cls := "LeadRacesModel", name := "runsOfAll", desc := "()I" } : Jvm.MethodName) prog_12_method_38_code (3 : Nat) (Option.some Jvm.ClassFile.FieldType.int)) ∈ lw_all := lw_g (lw_at lw_m9 40 rfl) rfl
theorem q2029 : (Jvm.Cond.methodLink "LeadRacesModel" (146 : Nat) ({ cls := "LeadRacesModel", name := "forEver", desc := "()I" } : Jvm.MethodName)) ∈ lw_all := lw_g (lw_at lw_m9 41 rfl) rfl
theorem q2031 : (Jvm.Cond.instanceMethod ({ cls := "LeadRacesModel", name := "forEver", desc := "()I" } : Jvm.MethodName)) ∈ lw_all := lw_g (lw_at lw_m9 43 rfl) rfl
theorem q2032 : (Jvm.Cond.code ({ cls := "LeadRacesModel", name := "forEver", desc := "()I" } : Jvm.MethodName) prog_12_method_39_code (3 : Nat) (Option.some Jvm.ClassFile.FieldType.int)) ∈ lw_all := lw_g (lw_at lw_m9 44 rfl) rfl
theorem q2075 : (Jvm.Cond.constantLong "LeadRacesModel" (172 : Nat) (32 : Int64)) ∈ lw_all := lw_g (lw_at lw_m9 87 rfl) rfl
theorem q2076 : (Jvm.Cond.constantLong "LeadRacesModel" (174 : Nat) (126 : Int64)) ∈ lw_all := lw_g (lw_at lw_m9 88 rfl) rfl
/-! the reference's changes: the history; what is asked of it -/
theorem sw_out {x : Int32} (n : Nat) (h : ∀ k : Nat, k < n + 1 → ¬ x = nI k) : x.toInt < 0 ∨ (n : Int) < x.toInt := by
  by_cases h0 : x.toInt < 0
  · exact Or.inl h0
  · refine Or.inr ?_
    obtain ⟨i, hi, rfl⟩ := nI_of (x := x) (by rw [Int32.lt_iff_toInt_lt, Int32.toInt_zero]; omega)
    rw [nI_toInt hi]
    by_cases h1 : i < n + 1
    · exact absurd rfl (h i h1)
    · omega
def shf (f : Nat → Int32) (n : Nat) : Nat → Int32 := fun j => if j < n then f (j + 88) else f j
theorem shf_0 (f : Nat → Int32) : shf f 0 = f := by funext j; simp [shf]
theorem shf_hi (f : Nat → Int32) (n : Nat) : shf f n (n + 88) = f (n + 88) := if_neg (by omega)
theorem shf_s (f : Nat → Int32) (i : Nat) : upd (shf f i) i (f (i + 88)) = shf f (i + 1) := by
  funext j
  unfold upd shf
  by_cases h : j = i
  · rw [if_pos h, if_pos (by omega), h]
  · rw [if_neg h]
    by_cases h2 : j < i
    · rw [if_pos h2, if_pos (by omega)]
    · rw [if_neg h2, if_neg (by omega)]
/-- g is laid into f from b on, n places of it -/
def lay (g f : Nat → Int32) (b n : Nat) : Nat → Int32 := fun j => if b ≤ j ∧ j < b + n then g (j - b) else f j
theorem lay_0 (g f : Nat → Int32) (b : Nat) : lay g f b 0 = f := by
  funext j
  unfold lay
  rw [if_neg (by omega)]
theorem lay_s (g f : Nat → Int32) (b i : Nat) : upd (lay g f b i) (b + i) (g i) = lay g f b (i + 1) := by
  funext j
  unfold upd lay
  by_cases h : j = b + i
  · rw [if_pos h, if_pos (by omega), h, Nat.add_sub_cancel_left]
  · rw [if_neg h]
    by_cases h2 : b ≤ j ∧ j < b + i
    · rw [if_pos h2, if_pos (by omega)]
    · rw [if_neg h2, if_neg (by omega)]
/-- the history with the kept row behind its hl rows -/
def m_chS (σ : MS) (hl : Nat) : MS := sV (sA σ 2 (lay (σ.1 1) (σ.1 2) (88 * hl) 88)) 0 (nI (hl + 1))
def m_chT (σ : MS) (hl : Nat) (x : Int32) : MS := if -10000001 < x then (if hl = 4 then m_chS (sV (sA σ 2 (shf (σ.1 2) 264)) 0 (nI 3)) 3 else m_chS σ hl) else σ
abbrev cX3_changed : ByteArray := prog_12_method_6_code
def yX3_changed : MethodName := ⟨RX3, "changed", "(I)I"⟩
theorem tX3_changed : dtab cX3_changed [(0, .iload_n 1, 1, 1), (1, .ldc 28, 2, 3), (3, .if_icmp .gt 5, 3, 6), (6, .iload_n 1, 1, 7), (7, .ireturn, 1, 8), (8, .aload_n 0, 1, 9), (9, .getfield 29, 3, 12), (12, .iconst 4, 1, 13), (13, .if_icmp .ne 43, 3, 16), (16, .iconst 0, 1, 17), (17, .istore_n 2, 1, 18), (18, .iload_n 2, 1, 19), (19, .sipush 264, 3, 22), (22, .if_icmp .ge 24, 3, 25), (25, .aload_n 0, 1, 26), (26, .getfield 16, 3, 29), (29, .iload_n 2, 1, 30), (30, .aload_n 0, 1, 31), (31, .getfield 16, 3, 34), (34, .iload_n 2, 1, 35), (35, .bipush 88, 2, 37), (37, .iadd, 1, 38), (38, .iaload, 1, 39), (39, .iastore, 1, 40), (40, .iinc 2 1, 3, 43), (43, .goto (-25), 3, 46), (46, .aload_n 0, 1, 47), (47, .dup, 1, 48), (48, .getfield 29, 3, 51), (51, .iconst 1, 1, 52), (52, .isub, 1, 53), (53, .putfield 29, 3, 56), (56, .iconst 0, 1, 57), (57, .istore_n 2, 1, 58), (58, .iload_n 2, 1, 59), (59, .bipush 88, 2, 61), (61, .if_icmp .ge 29, 3, 64), (64, .aload_n 0, 1, 65), (65, .getfield 16, 3, 68), (68, .bipush 88, 2, 70), (70, .aload_n 0, 1, 71), (71, .getfield 29, 3, 74), (74, .imul, 1, 75), (75, .iload_n 2, 1, 76), (76, .iadd, 1, 77), (77, .aload_n 0, 1, 78), (78, .getfield 13, 3, 81), (81, .iload_n 2, 1, 82), (82, .iaload, 1, 83), (83, .iastore, 1, 84), (84, .iinc 2 1, 3, 87), (87, .goto (-29), 3, 90), (90, .aload_n 0, 1, 91), (91, .dup, 1, 92), (92, .getfield 29, 3, 95), (95, .iconst 1, 1, 96), (96, .iadd, 1, 97), (97, .putfield 29, 3, 100), (100, .iload_n 1, 1, 101), (101, .ireturn, 1, 102)] := by unfold dtab; decide +kernel
theorem okX3_changed : okY yX3_changed 1 := by decide +kernel
set_option maxHeartbeats 4000000 in
theorem c_changed (l : Launch) (D : va_G) {h0 : PH} {m : Nat} {ar : Nat → Nat} (hd : md m ar) (σ : MS) (x : Int32) (hl : Nat) (hhl : σ.2 0 = nI hl) (hl4 : hl ≤ 4) : Ct l D yX3_changed cX3_changed 3 (some .int) (rmM 0 0) [.ref m, .int x] (mh h0 m ar σ) (PM h0 m ar (some (.int x)) (m_chT σ hl x)) := by
  refine Ct.of (by decide) rfl (fun Γ X rr hmn => ?_)
  have X : Cx l D cX3_changed RX3 3 (rmM 0 0) Γ := X
  show J Γ (mh h0 m ar σ) 0 0 0 [(0, .ref m), (1, .int x)] []
  refine J_iload_n X (dt tX3_changed 0 rfl) 1 rfl ?_
  refine J_ldc X (dt tX3_changed 1 rfl) q1903 ?_
  refine J_icmp_gt X 8 (dt tX3_changed 2 rfl) (by decide) (fun c1 => ?_) (fun c1 => ?_)
  · by_cases h4 : hl = 4
    · subst h4
      refine J_aload_n X (dt tX3_changed 5 rfl) 0 rfl ?_
      refine M_get_historyLong X (dt tX3_changed 6 rfl) ?_
      refine J_topi hhl ?_
      refine J_iconst X (nI 4) (dt tX3_changed 7 rfl) (by decide) ?_
      refine J_icmp_ne X 56 (dt tX3_changed 8 rfl) (by decide) (fun c9 => absurd (rfl) c9) (fun _ => ?_)
      refine J_iconst X (nI 0) (dt tX3_changed 9 rfl) (by decide) ?_
      refine J_istore_n X (lv2 := [(2, .int (nI 0)), (0, .ref m), (1, .int x)]) (dt tX3_changed 10 rfl) rfl rfl rfl ?_
      refine J_sub [1, 2, 0] rfl ?_
      refine J_heap (h2 := mh h0 m ar (sA σ 2 (shf (σ.1 2) 0))) (congrArg (mh h0 m ar) (by rw [shf_0]; exact (sA_id σ 2).symm)) ?_
      refine up_to 264 (P := fun i2 => J Γ (mh h0 m ar (sA σ 2 (shf (σ.1 2) i2))) 0 0 18 [(0, .ref m), (1, .int x), (2, .int (nI i2))] []) ?_ ?_
      · show J Γ (mh h0 m ar (sA σ 2 (shf (σ.1 2) 264))) 0 0 18 [(0, .ref m), (1, .int x), (2, .int (nI 264))] []
        refine J_iload_n X (dt tX3_changed 11 rfl) 2 rfl ?_
        refine J_sipush X (nI 264) (dt tX3_changed 12 rfl) (by decide) ?_
        refine J_icmp_ge X 46 (dt tX3_changed 13 rfl) (by decide) (fun _ => ?_) (fun c9 => absurd (nI_le (Nat.le_refl 264) (by decide)) c9)
        refine J_aload_n X (dt tX3_changed 26 rfl) 0 rfl ?_
        refine J_dup X (dt tX3_changed 27 rfl) rfl ?_
        refine M_get_historyLong X (dt tX3_changed 28 rfl) ?_
        refine J_topi hhl ?_
        refine J_iconst X (nI 1) (dt tX3_changed 29 rfl) (by decide) ?_
        refine J_isubN X (dt tX3_changed 30 rfl) (by omega) ?_
        refine M_put_historyLong X (dt tX3_changed 31 rfl) ?_
        show J Γ (mh h0 m ar (sV (sA σ 2 (shf (σ.1 2) 264)) 0 (nI 3))) 0 0 56 [(0, .ref m), (1, .int x), (2, .int (nI 264))] []
        refine J_iconst X (nI 0) (dt tX3_changed 32 rfl) (by decide) ?_
        refine J_istore_n X (lv2 := [(2, .int (nI 0)), (0, .ref m), (1, .int x)]) (dt tX3_changed 33 rfl) rfl rfl rfl ?_
        refine J_sub [1, 2, 0] rfl ?_
        refine J_heap (h2 := mh h0 m ar (sA (sV (sA σ 2 (shf (σ.1 2) 264)) 0 (nI 3)) 2 (lay ((sV (sA σ 2 (shf (σ.1 2) 264)) 0 (nI 3)).1 1) ((sV (sA σ 2 (shf (σ.1 2) 264)) 0 (nI 3)).1 2) (88 * 3) 0))) (congrArg (mh h0 m ar) (by rw [lay_0]; exact (sA_id (sV (sA σ 2 (shf (σ.1 2) 264)) 0 (nI 3)) 2).symm)) ?_
        refine up_to 88 (P := fun i3 => J Γ (mh h0 m ar (sA (sV (sA σ 2 (shf (σ.1 2) 264)) 0 (nI 3)) 2 (lay ((sV (sA σ 2 (shf (σ.1 2) 264)) 0 (nI 3)).1 1) ((sV (sA σ 2 (shf (σ.1 2) 264)) 0 (nI 3)).1 2) (88 * 3) i3))) 0 0 58 [(0, .ref m), (1, .int x), (2, .int (nI i3))] []) ?_ ?_
        · show J Γ (mh h0 m ar (sA (sV (sA σ 2 (shf (σ.1 2) 264)) 0 (nI 3)) 2 (lay ((sV (sA σ 2 (shf (σ.1 2) 264)) 0 (nI 3)).1 1) ((sV (sA σ 2 (shf (σ.1 2) 264)) 0 (nI 3)).1 2) (88 * 3) 88))) 0 0 58 [(0, .ref m), (1, .int x), (2, .int (nI 88))] []
          refine J_iload_n X (dt tX3_changed 34 rfl) 2 rfl ?_
          refine J_bipush X (nI 88) (dt tX3_changed 35 rfl) (by decide) ?_
          refine J_icmp_ge X 90 (dt tX3_changed 36 rfl) (by decide) (fun _ => ?_) (fun c9 => absurd (nI_le (Nat.le_refl 88) (by decide)) c9)
          refine J_aload_n X (dt tX3_changed 52 rfl) 0 rfl ?_
          refine J_dup X (dt tX3_changed 53 rfl) rfl ?_
          refine M_get_historyLong X (dt tX3_changed 54 rfl) ?_
          refine J_topi rfl ?_
          refine J_iconst X (nI 1) (dt tX3_changed 55 rfl) (by decide) ?_
          refine J_iaddN X (dt tX3_changed 56 rfl) ?_
          refine M_put_historyLong X (dt tX3_changed 57 rfl) ?_
          refine J_iload_n X (dt tX3_changed 58 rfl) 1 rfl ?_
          exact J_iret X rr (dt tX3_changed 59 rfl) (Nat.zero_le _) (Nat.zero_le _) ⟨rfl, congrArg (mh h0 m ar) ((if_pos c1).trans (if_pos rfl)).symm⟩
        · intro i3 hi3 ih
          refine J_iload_n X (dt tX3_changed 34 rfl) 2 rfl ?_
          refine J_bipush X (nI 88) (dt tX3_changed 35 rfl) (by decide) ?_
          refine J_icmp_ge X 90 (dt tX3_changed 36 rfl) (by decide) (fun c9 => absurd c9 (nI_ge hi3 (by decide))) (fun _ => ?_)
          refine J_aload_n X (dt tX3_changed 37 rfl) 0 rfl ?_
          refine M_get_history X (dt tX3_changed 38 rfl) ?_
          refine J_bipush X (nI 88) (dt tX3_changed 39 rfl) (by decide) ?_
          refine J_aload_n X (dt tX3_changed 40 rfl) 0 rfl ?_
          refine M_get_historyLong X (dt tX3_changed 41 rfl) ?_
          refine J_topi rfl ?_
          refine J_imulN X (dt tX3_changed 42 rfl) ?_
          refine J_iload_n X (dt tX3_changed 43 rfl) 2 rfl ?_
          refine J_iaddN X (dt tX3_changed 44 rfl) ?_
          refine J_aload_n X (dt tX3_changed 45 rfl) 0 rfl ?_
          refine M_get_kept X (dt tX3_changed 46 rfl) ?_
          refine J_iload_n X (dt tX3_changed 47 rfl) 2 rfl ?_
          refine M_ald_kept X hd (dt tX3_changed 48 rfl) (by omega) ?_
          refine M_ast_history X hd (dt tX3_changed 49 rfl) (by omega) ?_
          refine J_heap (h2 := mh h0 m ar (sA (sV (sA σ 2 (shf (σ.1 2) 264)) 0 (nI 3)) 2 (upd (lay ((sV (sA σ 2 (shf (σ.1 2) 264)) 0 (nI 3)).1 1) ((sV (sA σ 2 (shf (σ.1 2) 264)) 0 (nI 3)).1 2) (88 * 3) i3) ((88 * 3) + i3) ((sV (sA σ 2 (shf (σ.1 2) 264)) 0 (nI 3)).1 1 i3)))) (congrArg (mh h0 m ar) (sA_sA _ _ _ _)) ?_
          refine J_iinc X (lv2 := [(2, .int (nI (i3 + 1))), (0, .ref m), (1, .int x)]) (dt tX3_changed 50 rfl) 2 (nI (i3 + 1)) rfl (nI_add i3 1) rfl rfl ?_
          refine J_goto X (tgt := 58) (dt tX3_changed 51 rfl) (by decide) ?_
          refine J_sub [1, 2, 0] rfl ?_
          refine J_heap (h2 := mh h0 m ar (sA (sV (sA σ 2 (shf (σ.1 2) 264)) 0 (nI 3)) 2 (lay ((sV (sA σ 2 (shf (σ.1 2) 264)) 0 (nI 3)).1 1) ((sV (sA σ 2 (shf (σ.1 2) 264)) 0 (nI 3)).1 2) (88 * 3) (i3 + 1)))) (congrArg (mh h0 m ar) (congrArg (sA (sV (sA σ 2 (shf (σ.1 2) 264)) 0 (nI 3)) 2) (lay_s ((sV (sA σ 2 (shf (σ.1 2) 264)) 0 (nI 3)).1 1) ((sV (sA σ 2 (shf (σ.1 2) 264)) 0 (nI 3)).1 2) (88 * 3) i3))) ?_
          exact ih
      · intro i2 hi2 ih
        refine J_iload_n X (dt tX3_changed 11 rfl) 2 rfl ?_
        refine J_sipush X (nI 264) (dt tX3_changed 12 rfl) (by decide) ?_
        refine J_icmp_ge X 46 (dt tX3_changed 13 rfl) (by decide) (fun c9 => absurd c9 (nI_ge hi2 (by decide))) (fun _ => ?_)
        refine J_aload_n X (dt tX3_changed 14 rfl) 0 rfl ?_
        refine M_get_history X (dt tX3_changed 15 rfl) ?_
        refine J_iload_n X (dt tX3_changed 16 rfl) 2 rfl ?_
        refine J_aload_n X (dt tX3_changed 17 rfl) 0 rfl ?_
        refine M_get_history X (dt tX3_changed 18 rfl) ?_
        refine J_iload_n X (dt tX3_changed 19 rfl) 2 rfl ?_
        refine J_bipush X (nI 88) (dt tX3_changed 20 rfl) (by decide) ?_
        refine J_iaddN X (dt tX3_changed 21 rfl) ?_
        refine M_ald_history X hd (dt tX3_changed 22 rfl) (by omega) ?_
        refine M_ast_history X hd (dt tX3_changed 23 rfl) (by omega) ?_
        refine J_heap (h2 := mh h0 m ar (sA σ 2 (upd (shf (σ.1 2) i2) i2 (shf (σ.1 2) i2 (i2 + 88))))) (congrArg (mh h0 m ar) (sA_sA _ _ _ _)) ?_
        refine J_iinc X (lv2 := [(2, .int (nI (i2 + 1))), (0, .ref m), (1, .int x)]) (dt tX3_changed 24 rfl) 2 (nI (i2 + 1)) rfl (nI_add i2 1) rfl rfl ?_
        refine J_goto X (tgt := 18) (dt tX3_changed 25 rfl) (by decide) ?_
        refine J_sub [1, 2, 0] rfl ?_
        refine J_heap (h2 := mh h0 m ar (sA σ 2 (shf (σ.1 2) (i2 + 1)))) (congrArg (mh h0 m ar) (congrArg (sA σ 2) (by rw [shf_hi]; exact shf_s (σ.1 2) i2))) ?_
        exact ih
    · refine J_aload_n X (dt tX3_changed 5 rfl) 0 rfl ?_
      refine M_get_historyLong X (dt tX3_changed 6 rfl) ?_
      refine J_topi hhl ?_
      refine J_iconst X (nI 4) (dt tX3_changed 7 rfl) (by decide) ?_
      refine J_icmp_ne X 56 (dt tX3_changed 8 rfl) (by decide) (fun _ => ?_) (fun c9 => absurd c9 ((fun z => h4 ((nI_eq (by omega) (by decide)).mp z))))
      refine J_iconst X (nI 0) (dt tX3_changed 32 rfl) (by decide) ?_
      refine J_istore_n X (lv2 := [(2, .int (nI 0)), (0, .ref m), (1, .int x)]) (dt tX3_changed 33 rfl) rfl rfl rfl ?_
      refine J_sub [1, 2, 0] rfl ?_
      refine J_heap (h2 := mh h0 m ar (sA σ 2 (lay (σ.1 1) (σ.1 2) (88 * hl) 0))) (congrArg (mh h0 m ar) (by rw [lay_0]; exact (sA_id σ 2).symm)) ?_
      refine up_to 88 (P := fun i4 => J Γ (mh h0 m ar (sA σ 2 (lay (σ.1 1) (σ.1 2) (88 * hl) i4))) 0 0 58 [(0, .ref m), (1, .int x), (2, .int (nI i4))] []) ?_ ?_
      · show J Γ (mh h0 m ar (sA σ 2 (lay (σ.1 1) (σ.1 2) (88 * hl) 88))) 0 0 58 [(0, .ref m), (1, .int x), (2, .int (nI 88))] []
        refine J_iload_n X (dt tX3_changed 34 rfl) 2 rfl ?_
        refine J_bipush X (nI 88) (dt tX3_changed 35 rfl) (by decide) ?_
        refine J_icmp_ge X 90 (dt tX3_changed 36 rfl) (by decide) (fun _ => ?_) (fun c9 => absurd (nI_le (Nat.le_refl 88) (by decide)) c9)
        refine J_aload_n X (dt tX3_changed 52 rfl) 0 rfl ?_
        refine J_dup X (dt tX3_changed 53 rfl) rfl ?_
        refine M_get_historyLong X (dt tX3_changed 54 rfl) ?_
        refine J_topi hhl ?_
        refine J_iconst X (nI 1) (dt tX3_changed 55 rfl) (by decide) ?_
        refine J_iaddN X (dt tX3_changed 56 rfl) ?_
        refine M_put_historyLong X (dt tX3_changed 57 rfl) ?_
        refine J_iload_n X (dt tX3_changed 58 rfl) 1 rfl ?_
        exact J_iret X rr (dt tX3_changed 59 rfl) (Nat.zero_le _) (Nat.zero_le _) ⟨rfl, congrArg (mh h0 m ar) ((if_pos c1).trans (if_neg h4)).symm⟩
      · intro i4 hi4 ih
        refine J_iload_n X (dt tX3_changed 34 rfl) 2 rfl ?_
        refine J_bipush X (nI 88) (dt tX3_changed 35 rfl) (by decide) ?_
        refine J_icmp_ge X 90 (dt tX3_changed 36 rfl) (by decide) (fun c9 => absurd c9 (nI_ge hi4 (by decide))) (fun _ => ?_)
        refine J_aload_n X (dt tX3_changed 37 rfl) 0 rfl ?_
        refine M_get_history X (dt tX3_changed 38 rfl) ?_
        refine J_bipush X (nI 88) (dt tX3_changed 39 rfl) (by decide) ?_
        refine J_aload_n X (dt tX3_changed 40 rfl) 0 rfl ?_
        refine M_get_historyLong X (dt tX3_changed 41 rfl) ?_
        refine J_topi hhl ?_
        refine J_imulN X (dt tX3_changed 42 rfl) ?_
        refine J_iload_n X (dt tX3_changed 43 rfl) 2 rfl ?_
        refine J_iaddN X (dt tX3_changed 44 rfl) ?_
        refine J_aload_n X (dt tX3_changed 45 rfl) 0 rfl ?_
        refine M_get_kept X (dt tX3_changed 46 rfl) ?_
        refine J_iload_n X (dt tX3_changed 47 rfl) 2 rfl ?_
        refine M_ald_kept X hd (dt tX3_changed 48 rfl) (by omega) ?_
        refine M_ast_history X hd (dt tX3_changed 49 rfl) (by omega) ?_
        refine J_heap (h2 := mh h0 m ar (sA σ 2 (upd (lay (σ.1 1) (σ.1 2) (88 * hl) i4) ((88 * hl) + i4) (σ.1 1 i4)))) (congrArg (mh h0 m ar) (sA_sA _ _ _ _)) ?_
        refine J_iinc X (lv2 := [(2, .int (nI (i4 + 1))), (0, .ref m), (1, .int x)]) (dt tX3_changed 50 rfl) 2 (nI (i4 + 1)) rfl (nI_add i4 1) rfl rfl ?_
        refine J_goto X (tgt := 58) (dt tX3_changed 51 rfl) (by decide) ?_
        refine J_sub [1, 2, 0] rfl ?_
        refine J_heap (h2 := mh h0 m ar (sA σ 2 (lay (σ.1 1) (σ.1 2) (88 * hl) (i4 + 1)))) (congrArg (mh h0 m ar) (congrArg (sA σ 2) (lay_s (σ.1 1) (σ.1 2) (88 * hl) i4))) ?_
        exact ih
  · refine J_iload_n X (dt tX3_changed 3 rfl) 1 rfl ?_
    exact J_iret X rr (dt tX3_changed 4 rfl) (Nat.zero_le _) (Nat.zero_le _) ⟨rfl, congrArg (mh h0 m ar) (if_neg c1).symm⟩
theorem m_putsT_v (σ : MS) (kp : Nat) : (m_putsT σ kp).2 = σ.2 := by
  unfold m_putsT
  split <;> rfl
theorem m_forT_v (σ : MS) (j : Nat) : (m_forT σ j).2 = σ.2 := m_putsT_v _ _
theorem m_come_v (σ : MS) (x p s : Int32) : (m_come σ x p s).2.2 = σ.2 := by
  unfold m_come
  split
  · rfl
  · unfold m_come1
    split
    · rfl
    · split
      · rfl
      · split
        · exact m_forT_v _ _
        · rfl
theorem m_go_v (σ : MS) (x : Int32) : (m_go σ x).2.2 = σ.2 := by
  unfold m_go
  split
  · rfl
  · unfold m_go1
    split
    · rfl
    · exact m_forT_v _ _
theorem m_speed_v (σ : MS) (x s : Int32) : (m_speed σ x s).2.2 = σ.2 := by
  unfold m_speed
  split
  · rfl
  · unfold m_speed1
    split
    · rfl
    · split
      · rfl
      · exact m_forT_v _ _
theorem m_jump_v (σ : MS) (x w : Int32) : (m_jump σ x w).2.2 = σ.2 := by
  unfold m_jump
  split
  · rfl
  · unfold m_jump1
    split
    · rfl
    · split
      · rfl
      · split
        · rfl
        · exact m_forT_v _ _
theorem m_led_v (σ : MS) : (m_led σ).2 = σ.2 := by
  unfold m_led
  split <;> rfl
theorem m_rcT_v (σ : MS) (r : Nat) : (m_rcT σ r).2 = σ.2 := by
  unfold m_rcT
  split <;> rfl
theorem m_rcs_v (σ : MS) : ∀ i, (m_rcs σ i).2 = σ.2
  | 0 => rfl
  | i + 1 => (m_rcT_v (m_rcs σ i) i).trans (m_rcs_v σ i)
theorem m_byT_v (σ : MS) : (m_byT σ).2 = σ.2 := (m_putsT_v _ _).trans ((m_led_v _).trans (m_rcs_v _ 7))
theorem m_it_v (σ : MS) (i : Nat) : (m_it σ i).2.2 = σ.2 := by
  induction i with
  | zero => rw [m_it]
  | succ i ih => rw [m_it_2]; exact (m_byT_v _).trans ih
theorem m_pause_v (σ : MS) (x : Int32) : (m_pause σ x).2.2 = σ.2 := by
  unfold m_pause
  split
  · rfl
  · split
    · exact m_it_v _ _
    · rfl
theorem WF.keep {σ : MS} (h : WF σ) : WF (m_keep σ) := h.of0 rfl
abbrev cX3_come : ByteArray := prog_12_method_26_code
def yX3_come : MethodName := ⟨RX3, "come", "(III)I"⟩
theorem tX3_come : dtab cX3_come [(0, .aload_n 0, 1, 1), (1, .invokevirtual 106, 3, 4), (4, .aload_n 0, 1, 5), (5, .aload_n 0, 1, 6), (6, .iload_n 1, 1, 7), (7, .iload_n 2, 1, 8), (8, .iload_n 3, 1, 9), (9, .invokevirtual 109, 3, 12), (12, .invokevirtual 113, 3, 15), (15, .ireturn, 1, 16)] := by unfold dtab; decide +kernel
theorem okX3_come : okY yX3_come 3 := by decide +kernel
set_option maxHeartbeats 4000000 in
theorem c_come (l : Launch) (D : va_G) {h0 : PH} {m : Nat} {ar : Nat → Nat} (hd : md m ar) (σ : MS) (x : Int32) (p : Int32) (s : Int32) (hW : WF σ) (hl : Nat) (hhl : σ.2 0 = nI hl) (hl4 : hl ≤ 4) : Ct l D yX3_come cX3_come 4 (some .int) (rmM 5 123) [.ref m, .int x, .int p, .int s] (mh h0 m ar σ) (PM h0 m ar (some (.int ((m_come (m_keep σ) x p s).1))) (m_chT (m_come (m_keep σ) x p s).2 hl (m_come (m_keep σ) x p s).1)) := by
  refine Ct.of (by decide) rfl (fun Γ X rr hmn => ?_)
  have X : Cx l D cX3_come RX3 4 (rmM 5 123) Γ := X
  show J Γ (mh h0 m ar σ) 0 0 0 [(0, .ref m), (1, .int x), (2, .int p), (3, .int s)] []
  refine J_aload_n X (dt tX3_come 0 rfl) 0 rfl ?_
  refine M_callV (rest := []) X (dt tX3_come 1 rfl) (c_keep l D hd σ ) (lw_V q1881 q1883 qs36 q86 q1884) okX3_keep rfl rfl ⟨Nat.le_of_ble_eq_true rfl, Nat.le_of_ble_eq_true rfl⟩ rfl (Nat.le_of_ble_eq_true rfl) (Nat.zero_le _) (Nat.zero_le _) ?_
  refine J_aload_n X (dt tX3_come 2 rfl) 0 rfl ?_
  refine J_aload_n X (dt tX3_come 3 rfl) 0 rfl ?_
  refine J_iload_n X (dt tX3_come 4 rfl) 1 rfl ?_
  refine J_iload_n X (dt tX3_come 5 rfl) 2 rfl ?_
  refine J_iload_n X (dt tX3_come 6 rfl) 3 rfl ?_
  refine M_callV (rest := [.ref m]) X (dt tX3_come 7 rfl) (c_doCome l D hd (m_keep σ) x p s hW.keep) (lw_V q1885 q1887 qs37 q86 q1888) okX3_doCome rfl rfl ⟨Nat.le_of_ble_eq_true rfl, Nat.le_of_ble_eq_true rfl⟩ rfl (Nat.le_of_ble_eq_true rfl) (Nat.zero_le _) (Nat.zero_le _) ?_
  refine M_callV (rest := []) X (dt tX3_come 8 rfl) (c_changed l D hd ((m_come (m_keep σ) x p s).2) ((m_come (m_keep σ) x p s).1) hl ((congrFun (m_come_v (m_keep σ) x p s) 0).trans hhl) hl4) (lw_V q1945 q1947 qs48 q86 q1948) okX3_changed rfl rfl ⟨Nat.le_of_ble_eq_true rfl, Nat.le_of_ble_eq_true rfl⟩ rfl (Nat.le_of_ble_eq_true rfl) (Nat.zero_le _) (Nat.zero_le _) ?_
  exact J_iret X rr (dt tX3_come 9 rfl) (Nat.zero_le _) (Nat.zero_le _) ⟨rfl, rfl⟩
abbrev cX3_go : ByteArray := prog_12_method_27_code
def yX3_go : MethodName := ⟨RX3, "go", "(I)I"⟩
theorem tX3_go : dtab cX3_go [(0, .aload_n 0, 1, 1), (1, .invokevirtual 106, 3, 4), (4, .aload_n 0, 1, 5), (5, .aload_n 0, 1, 6), (6, .iload_n 1, 1, 7), (7, .invokevirtual 117, 3, 10), (10, .invokevirtual 113, 3, 13), (13, .ireturn, 1, 14)] := by unfold dtab; decide +kernel
theorem okX3_go : okY yX3_go 1 := by decide +kernel
set_option maxHeartbeats 4000000 in
theorem c_go (l : Launch) (D : va_G) {h0 : PH} {m : Nat} {ar : Nat → Nat} (hd : md m ar) (σ : MS) (x : Int32) (hW : WF σ) (hl : Nat) (hhl : σ.2 0 = nI hl) (hl4 : hl ≤ 4) : Ct l D yX3_go cX3_go 2 (some .int) (rmM 5 121) [.ref m, .int x] (mh h0 m ar σ) (PM h0 m ar (some (.int ((m_go (m_keep σ) x).1))) (m_chT (m_go (m_keep σ) x).2 hl (m_go (m_keep σ) x).1)) := by
  refine Ct.of (by decide) rfl (fun Γ X rr hmn => ?_)
  have X : Cx l D cX3_go RX3 2 (rmM 5 121) Γ := X
  show J Γ (mh h0 m ar σ) 0 0 0 [(0, .ref m), (1, .int x)] []
  refine J_aload_n X (dt tX3_go 0 rfl) 0 rfl ?_
  refine M_callV (rest := []) X (dt tX3_go 1 rfl) (c_keep l D hd σ ) (lw_V q1881 q1883 qs36 q86 q1884) okX3_keep rfl rfl ⟨Nat.le_of_ble_eq_true rfl, Nat.le_of_ble_eq_true rfl⟩ rfl (Nat.le_of_ble_eq_true rfl) (Nat.zero_le _) (Nat.zero_le _) ?_
  refine J_aload_n X (dt tX3_go 2 rfl) 0 rfl ?_
  refine J_aload_n X (dt tX3_go 3 rfl) 0 rfl ?_
  refine J_iload_n X (dt tX3_go 4 rfl) 1 rfl ?_
  refine M_callV (rest := [.ref m]) X (dt tX3_go 5 rfl) (c_doGo l D hd (m_keep σ) x hW.keep) (lw_V q1953 q1955 qs49 q86 q1956) okX3_doGo rfl rfl ⟨Nat.le_of_ble_eq_true rfl, Nat.le_of_ble_eq_true rfl⟩ rfl (Nat.le_of_ble_eq_true rfl) (Nat.zero_le _) (Nat.zero_le _) ?_
  refine M_callV (rest := []) X (dt tX3_go 6 rfl) (c_changed l D hd ((m_go (m_keep σ) x).2) ((m_go (m_keep σ) x).1) hl ((congrFun (m_go_v (m_keep σ) x) 0).trans hhl) hl4) (lw_V q1945 q1947 qs48 q86 q1948) okX3_changed rfl rfl ⟨Nat.le_of_ble_eq_true rfl, Nat.le_of_ble_eq_true rfl⟩ rfl (Nat.le_of_ble_eq_true rfl) (Nat.zero_le _) (Nat.zero_le _) ?_
  exact J_iret X rr (dt tX3_go 7 rfl) (Nat.zero_le _) (Nat.zero_le _) ⟨rfl, rfl⟩
abbrev cX3_speed : ByteArray := prog_12_method_28_code
def yX3_speed : MethodName := ⟨RX3, "speed", "(II)I"⟩
theorem tX3_speed : dtab cX3_speed [(0, .aload_n 0, 1, 1), (1, .invokevirtual 106, 3, 4), (4, .aload_n 0, 1, 5), (5, .aload_n 0, 1, 6), (6, .iload_n 1, 1, 7), (7, .iload_n 2, 1, 8), (8, .invokevirtual 120, 3, 11), (11, .invokevirtual 113, 3, 14), (14, .ireturn, 1, 15)] := by unfold dtab; decide +kernel
theorem okX3_speed : okY yX3_speed 2 := by decide +kernel
set_option maxHeartbeats 4000000 in
theorem c_speed (l : Launch) (D : va_G) {h0 : PH} {m : Nat} {ar : Nat → Nat} (hd : md m ar) (σ : MS) (x : Int32) (s : Int32) (hW : WF σ) (hl : Nat) (hhl : σ.2 0 = nI hl) (hl4 : hl ≤ 4) : Ct l D yX3_speed cX3_speed 3 (some .int) (rmM 5 123) [.ref m, .int x, .int s] (mh h0 m ar σ) (PM h0 m ar (some (.int ((m_speed (m_keep σ) x s).1))) (m_chT (m_speed (m_keep σ) x s).2 hl (m_speed (m_keep σ) x s).1)) := by
  refine Ct.of (by decide) rfl (fun Γ X rr hmn => ?_)
  have X : Cx l D cX3_speed RX3 3 (rmM 5 123) Γ := X
  show J Γ (mh h0 m ar σ) 0 0 0 [(0, .ref m), (1, .int x), (2, .int s)] []
  refine J_aload_n X (dt tX3_speed 0 rfl) 0 rfl ?_
  refine M_callV (rest := []) X (dt tX3_speed 1 rfl) (c_keep l D hd σ ) (lw_V q1881 q1883 qs36 q86 q1884) okX3_keep rfl rfl ⟨Nat.le_of_ble_eq_true rfl, Nat.le_of_ble_eq_true rfl⟩ rfl (Nat.le_of_ble_eq_true rfl) (Nat.zero_le _) (Nat.zero_le _) ?_
  refine J_aload_n X (dt tX3_speed 2 rfl) 0 rfl ?_
  refine J_aload_n X (dt tX3_speed 3 rfl) 0 rfl ?_
  refine J_iload_n X (dt tX3_speed 4 rfl) 1 rfl ?_
  refine J_iload_n X (dt tX3_speed 5 rfl) 2 rfl ?_
  refine M_callV (rest := [.ref m]) X (dt tX3_speed 6 rfl) (c_doSpeed l D hd (m_keep σ) x s hW.keep) (lw_V q1965 q1967 qs51 q86 q1968) okX3_doSpeed rfl rfl ⟨Nat.le_of_ble_eq_true rfl, Nat.le_of_ble_eq_true rfl⟩ rfl (Nat.le_of_ble_eq_true rfl) (Nat.zero_le _) (Nat.zero_le _) ?_
  refine M_callV (rest := []) X (dt tX3_speed 7 rfl) (c_changed l D hd ((m_speed (m_keep σ) x s).2) ((m_speed (m_keep σ) x s).1) hl ((congrFun (m_speed_v (m_keep σ) x s) 0).trans hhl) hl4) (lw_V q1945 q1947 qs48 q86 q1948) okX3_changed rfl rfl ⟨Nat.le_of_ble_eq_true rfl, Nat.le_of_ble_eq_true rfl⟩ rfl (Nat.le_of_ble_eq_true rfl) (Nat.zero_le _) (Nat.zero_le _) ?_
  exact J_iret X rr (dt tX3_speed 8 rfl) (Nat.zero_le _) (Nat.zero_le _) ⟨rfl, rfl⟩
abbrev cX3_jump : ByteArray := prog_12_method_29_code
def yX3_jump : MethodName := ⟨RX3, "jump", "(II)I"⟩
theorem tX3_jump : dtab cX3_jump [(0, .aload_n 0, 1, 1), (1, .invokevirtual 106, 3, 4), (4, .aload_n 0, 1, 5), (5, .aload_n 0, 1, 6), (6, .iload_n 1, 1, 7), (7, .iload_n 2, 1, 8), (8, .invokevirtual 123, 3, 11), (11, .invokevirtual 113, 3, 14), (14, .ireturn, 1, 15)] := by unfold dtab; decide +kernel
theorem okX3_jump : okY yX3_jump 2 := by decide +kernel
set_option maxHeartbeats 4000000 in
theorem c_jump (l : Launch) (D : va_G) {h0 : PH} {m : Nat} {ar : Nat → Nat} (hd : md m ar) (σ : MS) (x : Int32) (w : Int32) (hW : WF σ) (hl : Nat) (hhl : σ.2 0 = nI hl) (hl4 : hl ≤ 4) : Ct l D yX3_jump cX3_jump 3 (some .int) (rmM 5 122) [.ref m, .int x, .int w] (mh h0 m ar σ) (PM h0 m ar (some (.int ((m_jump (m_keep σ) x w).1))) (m_chT (m_jump (m_keep σ) x w).2 hl (m_jump (m_keep σ) x w).1)) := by
  refine Ct.of (by decide) rfl (fun Γ X rr hmn => ?_)
  have X : Cx l D cX3_jump RX3 3 (rmM 5 122) Γ := X
  show J Γ (mh h0 m ar σ) 0 0 0 [(0, .ref m), (1, .int x), (2, .int w)] []
  refine J_aload_n X (dt tX3_jump 0 rfl) 0 rfl ?_
  refine M_callV (rest := []) X (dt tX3_jump 1 rfl) (c_keep l D hd σ ) (lw_V q1881 q1883 qs36 q86 q1884) okX3_keep rfl rfl ⟨Nat.le_of_ble_eq_true rfl, Nat.le_of_ble_eq_true rfl⟩ rfl (Nat.le_of_ble_eq_true rfl) (Nat.zero_le _) (Nat.zero_le _) ?_
  refine J_aload_n X (dt tX3_jump 2 rfl) 0 rfl ?_
  refine J_aload_n X (dt tX3_jump 3 rfl) 0 rfl ?_
  refine J_iload_n X (dt tX3_jump 4 rfl) 1 rfl ?_
  refine J_iload_n X (dt tX3_jump 5 rfl) 2 rfl ?_
  refine M_callV (rest := [.ref m]) X (dt tX3_jump 6 rfl) (c_doJump l D hd (m_keep σ) x w hW.keep) (lw_V q1973 q1975 qs52 q86 q1976) okX3_doJump rfl rfl ⟨Nat.le_of_ble_eq_true rfl, Nat.le_of_ble_eq_true rfl⟩ rfl (Nat.le_of_ble_eq_true rfl) (Nat.zero_le _) (Nat.zero_le _) ?_
  refine M_callV (rest := []) X (dt tX3_jump 7 rfl) (c_changed l D hd ((m_jump (m_keep σ) x w).2) ((m_jump (m_keep σ) x w).1) hl ((congrFun (m_jump_v (m_keep σ) x w) 0).trans hhl) hl4) (lw_V q1945 q1947 qs48 q86 q1948) okX3_changed rfl rfl ⟨Nat.le_of_ble_eq_true rfl, Nat.le_of_ble_eq_true rfl⟩ rfl (Nat.le_of_ble_eq_true rfl) (Nat.zero_le _) (Nat.zero_le _) ?_
  exact J_iret X rr (dt tX3_jump 8 rfl) (Nat.zero_le _) (Nat.zero_le _) ⟨rfl, rfl⟩
abbrev cX3_pause : ByteArray := prog_12_method_30_code
def yX3_pause : MethodName := ⟨RX3, "pause", "(I)I"⟩
theorem tX3_pause : dtab cX3_pause [(0, .aload_n 0, 1, 1), (1, .invokevirtual 106, 3, 4), (4, .aload_n 0, 1, 5), (5, .aload_n 0, 1, 6), (6, .iload_n 1, 1, 7), (7, .invokevirtual 126, 3, 10), (10, .invokevirtual 113, 3, 13), (13, .ireturn, 1, 14)] := by unfold dtab; decide +kernel
theorem okX3_pause : okY yX3_pause 1 := by decide +kernel
set_option maxHeartbeats 4000000 in
theorem c_pause (l : Launch) (D : va_G) {h0 : PH} {m : Nat} {ar : Nat → Nat} (hd : md m ar) (σ : MS) (x : Int32) (hW : WF σ) (hl : Nat) (hhl : σ.2 0 = nI hl) (hl4 : hl ≤ 4) : Ct l D yX3_pause cX3_pause 2 (some .int) (rmM 5 120) [.ref m, .int x] (mh h0 m ar σ) (PM h0 m ar (some (.int ((m_pause (m_keep σ) x).1))) (m_chT (m_pause (m_keep σ) x).2 hl (m_pause (m_keep σ) x).1)) := by
  refine Ct.of (by decide) rfl (fun Γ X rr hmn => ?_)
  have X : Cx l D cX3_pause RX3 2 (rmM 5 120) Γ := X
  show J Γ (mh h0 m ar σ) 0 0 0 [(0, .ref m), (1, .int x)] []
  refine J_aload_n X (dt tX3_pause 0 rfl) 0 rfl ?_
  refine M_callV (rest := []) X (dt tX3_pause 1 rfl) (c_keep l D hd σ ) (lw_V q1881 q1883 qs36 q86 q1884) okX3_keep rfl rfl ⟨Nat.le_of_ble_eq_true rfl, Nat.le_of_ble_eq_true rfl⟩ rfl (Nat.le_of_ble_eq_true rfl) (Nat.zero_le _) (Nat.zero_le _) ?_
  refine J_aload_n X (dt tX3_pause 2 rfl) 0 rfl ?_
  refine J_aload_n X (dt tX3_pause 3 rfl) 0 rfl ?_
  refine J_iload_n X (dt tX3_pause 4 rfl) 1 rfl ?_
  refine M_callV (rest := [.ref m]) X (dt tX3_pause 5 rfl) (c_doPause l D hd (m_keep σ) x hW.keep) (lw_V q1986 q1988 qs53 q86 q1989) okX3_doPause rfl rfl ⟨Nat.le_of_ble_eq_true rfl, Nat.le_of_ble_eq_true rfl⟩ rfl (Nat.le_of_ble_eq_true rfl) (Nat.zero_le _) (Nat.zero_le _) ?_
  refine M_callV (rest := []) X (dt tX3_pause 6 rfl) (c_changed l D hd ((m_pause (m_keep σ) x).2) ((m_pause (m_keep σ) x).1) hl ((congrFun (m_pause_v (m_keep σ) x) 0).trans hhl) hl4) (lw_V q1945 q1947 qs48 q86 q1948) okX3_changed rfl rfl ⟨Nat.le_of_ble_eq_true rfl, Nat.le_of_ble_eq_true rfl⟩ rfl (Nat.le_of_ble_eq_true rfl) (Nat.zero_le _) (Nat.zero_le _) ?_
  exact J_iret X rr (dt tX3_pause 7 rfl) (Nat.zero_le _) (Nat.zero_le _) ⟨rfl, rfl⟩
def m_undo (σ : MS) (hl : Nat) : Int32 × MS := if hl = 0 then (-10000002, σ) else (nI (hl - 1), sV (sA σ 0 (cpn (fun k => σ.1 2 (88 * (hl - 1) + k)) (σ.1 0) 88)) 0 (nI (hl - 1)))
abbrev cX3_undo : ByteArray := prog_12_method_48_code
def yX3_undo : MethodName := ⟨RX3, "undo", "()I"⟩
theorem tX3_undo : dtab cX3_undo [(0, .aload_n 0, 1, 1), (1, .getfield 29, 3, 4), (4, .ifCond .ne 6, 3, 7), (7, .ldc 85, 2, 9), (9, .ireturn, 1, 10), (10, .aload_n 0, 1, 11), (11, .dup, 1, 12), (12, .getfield 29, 3, 15), (15, .iconst 1, 1, 16), (16, .isub, 1, 17), (17, .putfield 29, 3, 20), (20, .iconst 0, 1, 21), (21, .istore_n 1, 1, 22), (22, .iload_n 1, 1, 23), (23, .bipush 88, 2, 25), (25, .if_icmp .ge 29, 3, 28), (28, .aload_n 0, 1, 29), (29, .getfield 7, 3, 32), (32, .iload_n 1, 1, 33), (33, .aload_n 0, 1, 34), (34, .getfield 16, 3, 37), (37, .bipush 88, 2, 39), (39, .aload_n 0, 1, 40), (40, .getfield 29, 3, 43), (43, .imul, 1, 44), (44, .iload_n 1, 1, 45), (45, .iadd, 1, 46), (46, .iaload, 1, 47), (47, .iastore, 1, 48), (48, .iinc 1 1, 3, 51), (51, .goto (-29), 3, 54), (54, .aload_n 0, 1, 55), (55, .getfield 29, 3, 58), (58, .ireturn, 1, 59)] := by unfold dtab; decide +kernel
theorem okX3_undo : okY yX3_undo 0 := by decide +kernel
set_option maxHeartbeats 4000000 in
theorem c_undo (l : Launch) (D : va_G) {h0 : PH} {m : Nat} {ar : Nat → Nat} (hd : md m ar) (σ : MS)  (hl : Nat) (hhl : σ.2 0 = nI hl) (hl4 : hl ≤ 4) : Ct l D yX3_undo cX3_undo 2 (some .int) (rmM 0 0) [.ref m] (mh h0 m ar σ) (PM h0 m ar (some (.int ((m_undo σ hl).1))) ((m_undo σ hl).2)) := by
  refine Ct.of (by decide) rfl (fun Γ X rr hmn => ?_)
  have X : Cx l D cX3_undo RX3 2 (rmM 0 0) Γ := X
  show J Γ (mh h0 m ar σ) 0 0 0 [(0, .ref m)] []
  by_cases hz : hl = 0
  · refine J_aload_n X (dt tX3_undo 0 rfl) 0 rfl ?_
    refine M_get_historyLong X (dt tX3_undo 1 rfl) ?_
    refine J_topi hhl ?_
    refine J_if_ne X 10 (dt tX3_undo 2 rfl) (by decide) (fun c9 => absurd ((by rw [hz]; rfl)) c9) (fun _ => ?_)
    refine J_ldc X (dt tX3_undo 3 rfl) q1908 ?_
    exact J_iret X rr (dt tX3_undo 4 rfl) (Nat.zero_le _) (Nat.zero_le _) (pm_of (by unfold m_undo; exact if_pos hz))
  · refine J_aload_n X (dt tX3_undo 0 rfl) 0 rfl ?_
    refine M_get_historyLong X (dt tX3_undo 1 rfl) ?_
    refine J_topi hhl ?_
    refine J_if_ne X 10 (dt tX3_undo 2 rfl) (by decide) (fun _ => ?_) (fun c9 => absurd c9 (nI_ne0 (by omega) (by omega)))
    refine J_aload_n X (dt tX3_undo 5 rfl) 0 rfl ?_
    refine J_dup X (dt tX3_undo 6 rfl) rfl ?_
    refine M_get_historyLong X (dt tX3_undo 7 rfl) ?_
    refine J_topi hhl ?_
    refine J_iconst X (nI 1) (dt tX3_undo 8 rfl) (by decide) ?_
    refine J_isubN X (dt tX3_undo 9 rfl) (by omega) ?_
    refine M_put_historyLong X (dt tX3_undo 10 rfl) ?_
    refine J_iconst X (nI 0) (dt tX3_undo 11 rfl) (by decide) ?_
    refine J_istore_n X (lv2 := [(1, .int (nI 0)), (0, .ref m)]) (dt tX3_undo 12 rfl) rfl rfl rfl ?_
    refine J_sub [1, 0] rfl ?_
    refine J_heap (h2 := mh h0 m ar (sV (sA σ 0 (cpn (fun k => σ.1 2 (88 * (hl - 1) + k)) (σ.1 0) 0)) 0 (nI (hl - 1)))) (congrArg (mh h0 m ar) (by rw [cpn_0, sA_id])) ?_
    refine up_to 88 (P := fun i1 => J Γ (mh h0 m ar (sV (sA σ 0 (cpn (fun k => σ.1 2 (88 * (hl - 1) + k)) (σ.1 0) i1)) 0 (nI (hl - 1)))) 0 0 22 [(0, .ref m), (1, .int (nI i1))] []) ?_ ?_
    · show J Γ (mh h0 m ar (sV (sA σ 0 (cpn (fun k => σ.1 2 (88 * (hl - 1) + k)) (σ.1 0) 88)) 0 (nI (hl - 1)))) 0 0 22 [(0, .ref m), (1, .int (nI 88))] []
      refine J_iload_n X (dt tX3_undo 13 rfl) 1 rfl ?_
      refine J_bipush X (nI 88) (dt tX3_undo 14 rfl) (by decide) ?_
      refine J_icmp_ge X 54 (dt tX3_undo 15 rfl) (by decide) (fun _ => ?_) (fun c9 => absurd (nI_le (Nat.le_refl 88) (by decide)) c9)
      refine J_aload_n X (dt tX3_undo 31 rfl) 0 rfl ?_
      refine M_get_historyLong X (dt tX3_undo 32 rfl) ?_
      exact J_iret X rr (dt tX3_undo 33 rfl) (Nat.zero_le _) (Nat.zero_le _) (pm_of (by unfold m_undo; exact if_neg hz))
    · intro i1 hi1 ih
      refine J_iload_n X (dt tX3_undo 13 rfl) 1 rfl ?_
      refine J_bipush X (nI 88) (dt tX3_undo 14 rfl) (by decide) ?_
      refine J_icmp_ge X 54 (dt tX3_undo 15 rfl) (by decide) (fun c9 => absurd c9 (nI_ge hi1 (by decide))) (fun _ => ?_)
      refine J_aload_n X (dt tX3_undo 16 rfl) 0 rfl ?_
      refine M_get_all X (dt tX3_undo 17 rfl) ?_
      refine J_iload_n X (dt tX3_undo 18 rfl) 1 rfl ?_
      refine J_aload_n X (dt tX3_undo 19 rfl) 0 rfl ?_
      refine M_get_history X (dt tX3_undo 20 rfl) ?_
      refine J_bipush X (nI 88) (dt tX3_undo 21 rfl) (by decide) ?_
      refine J_aload_n X (dt tX3_undo 22 rfl) 0 rfl ?_
      refine M_get_historyLong X (dt tX3_undo 23 rfl) ?_
      refine J_imulN X (dt tX3_undo 24 rfl) ?_
      refine J_iload_n X (dt tX3_undo 25 rfl) 1 rfl ?_
      refine J_iaddN X (dt tX3_undo 26 rfl) ?_
      refine M_ald_history X hd (dt tX3_undo 27 rfl) (by omega) ?_
      refine M_ast_all X hd (dt tX3_undo 28 rfl) (by omega) ?_
      refine J_heap (h2 := mh h0 m ar (sV (sA σ 0 (upd (cpn (fun k => σ.1 2 (88 * (hl - 1) + k)) (σ.1 0) i1) i1 (σ.1 2 ((88 * (hl - 1)) + i1)))) 0 (nI (hl - 1)))) (congrArg (mh h0 m ar) (congrArg (fun z => sV z 0 (nI (hl - 1))) (sA_sA _ _ _ _))) ?_
      refine J_iinc X (lv2 := [(1, .int (nI (i1 + 1))), (0, .ref m)]) (dt tX3_undo 29 rfl) 1 (nI (i1 + 1)) rfl (nI_add i1 1) rfl rfl ?_
      refine J_goto X (tgt := 22) (dt tX3_undo 30 rfl) (by decide) ?_
      refine J_sub [1, 0] rfl ?_
      refine J_heap (h2 := mh h0 m ar (sV (sA σ 0 (cpn (fun k => σ.1 2 (88 * (hl - 1) + k)) (σ.1 0) (i1 + 1))) 0 (nI (hl - 1)))) (congrArg (mh h0 m ar) (congrArg (fun z => sV (sA σ 0 z) 0 (nI (hl - 1))) (cpn_s (fun k => σ.1 2 (88 * (hl - 1) + k)) (σ.1 0) i1))) ?_
      exact ih
def m_type (σ : MS) (tl : Nat) (x : Int32) : Int32 × MS := if m_in x.toInt64 32 126 = 0 then (-10000001, σ) else if tl = 60 then (-10000003, σ) else (nI (tl + 1), sV (sA σ 4 (upd (σ.1 4) tl x)) 3 (nI (tl + 1)))
abbrev cX3_type : ByteArray := prog_12_method_49_code
def yX3_type : MethodName := ⟨RX3, "type", "(I)I"⟩
theorem tX3_type : dtab cX3_type [(0, .iload_n 1, 1, 1), (1, .i2l, 1, 2), (2, .ldc2_w 172, 3, 5), (5, .ldc2_w 174, 3, 8), (8, .invokestatic 35, 3, 11), (11, .ifCond .ne 6, 3, 14), (14, .ldc 28, 2, 16), (16, .ireturn, 1, 17), (17, .aload_n 0, 1, 18), (18, .getfield 143, 3, 21), (21, .bipush 60, 2, 23), (23, .if_icmp .ne 6, 3, 26), (26, .ldc 100, 2, 28), (28, .ireturn, 1, 29), (29, .aload_n 0, 1, 30), (30, .getfield 22, 3, 33), (33, .aload_n 0, 1, 34), (34, .getfield 143, 3, 37), (37, .iload_n 1, 1, 38), (38, .iastore, 1, 39), (39, .aload_n 0, 1, 40), (40, .dup, 1, 41), (41, .getfield 143, 3, 44), (44, .iconst 1, 1, 45), (45, .iadd, 1, 46), (46, .putfield 143, 3, 49), (49, .aload_n 0, 1, 50), (50, .getfield 143, 3, 53), (53, .ireturn, 1, 54)] := by unfold dtab; decide +kernel
theorem okX3_type : okY yX3_type 1 := by decide +kernel
set_option maxHeartbeats 4000000 in
theorem c_type (l : Launch) (D : va_G) {h0 : PH} {m : Nat} {ar : Nat → Nat} (hd : md m ar) (σ : MS) (x : Int32) (tl : Nat) (htl : σ.2 3 = nI tl) (tl60 : tl ≤ 60) : Ct l D yX3_type cX3_type 2 (some .int) (rmM 1 25) [.ref m, .int x] (mh h0 m ar σ) (PM h0 m ar (some (.int ((m_type σ tl x).1))) ((m_type σ tl x).2)) := by
  refine Ct.of (by decide) rfl (fun Γ X rr hmn => ?_)
  have X : Cx l D cX3_type RX3 2 (rmM 1 25) Γ := X
  show J Γ (mh h0 m ar σ) 0 0 0 [(0, .ref m), (1, .int x)] []
  refine J_iload_n X (dt tX3_type 0 rfl) 1 rfl ?_
  refine J_i2l X (dt tX3_type 1 rfl) ?_
  refine J_ldc2 X (dt tX3_type 2 rfl) q2075 ?_
  refine J_ldc2 X (dt tX3_type 3 rfl) q2076 ?_
  refine S_callS (rest := []) X (dt tX3_type 4 rfl) (c_in l D _ x.toInt64 (32) (126) ) (lw_S q1893 q1894 q86 q1895) okX3_in rfl ⟨Nat.le_of_ble_eq_true rfl, Nat.le_of_ble_eq_true rfl⟩ rfl (Nat.le_of_ble_eq_true rfl) (Nat.zero_le _) (Nat.zero_le _) ?_
  refine J_if_ne X 17 (dt tX3_type 5 rfl) (by decide) (fun c1 => ?_) (fun c1 => ?_)
  · by_cases h60 : tl = 60
    · refine J_aload_n X (dt tX3_type 8 rfl) 0 rfl ?_
      refine M_get_textLong X (dt tX3_type 9 rfl) ?_
      refine J_topi htl ?_
      refine J_bipush X (nI 60) (dt tX3_type 10 rfl) (by decide) ?_
      refine J_icmp_ne X 29 (dt tX3_type 11 rfl) (by decide) (fun c9 => absurd ((by rw [h60])) c9) (fun _ => ?_)
      refine J_ldc X (dt tX3_type 12 rfl) q1981 ?_
      exact J_iret X rr (dt tX3_type 13 rfl) (Nat.zero_le _) (Nat.zero_le _) (pm_of (by unfold m_type; exact (if_neg c1).trans (if_pos h60)))
    · refine J_aload_n X (dt tX3_type 8 rfl) 0 rfl ?_
      refine M_get_textLong X (dt tX3_type 9 rfl) ?_
      refine J_topi htl ?_
      refine J_bipush X (nI 60) (dt tX3_type 10 rfl) (by decide) ?_
      refine J_icmp_ne X 29 (dt tX3_type 11 rfl) (by decide) (fun _ => ?_) (fun c9 => absurd c9 ((fun z => h60 ((nI_eq (by omega) (by decide)).mp z))))
      refine J_aload_n X (dt tX3_type 14 rfl) 0 rfl ?_
      refine M_get_text X (dt tX3_type 15 rfl) ?_
      refine J_aload_n X (dt tX3_type 16 rfl) 0 rfl ?_
      refine M_get_textLong X (dt tX3_type 17 rfl) ?_
      refine J_topi htl ?_
      refine J_iload_n X (dt tX3_type 18 rfl) 1 rfl ?_
      refine M_ast_text X hd (dt tX3_type 19 rfl) (by omega) ?_
      refine J_aload_n X (dt tX3_type 20 rfl) 0 rfl ?_
      refine J_dup X (dt tX3_type 21 rfl) rfl ?_
      refine M_get_textLong X (dt tX3_type 22 rfl) ?_
      refine J_topi htl ?_
      refine J_iconst X (nI 1) (dt tX3_type 23 rfl) (by decide) ?_
      refine J_iaddN X (dt tX3_type 24 rfl) ?_
      refine M_put_textLong X (dt tX3_type 25 rfl) ?_
      refine J_aload_n X (dt tX3_type 26 rfl) 0 rfl ?_
      refine M_get_textLong X (dt tX3_type 27 rfl) ?_
      exact J_iret X rr (dt tX3_type 28 rfl) (Nat.zero_le _) (Nat.zero_le _) (pm_of (by unfold m_type; exact (if_neg c1).trans (if_neg h60)))
  · refine J_ldc X (dt tX3_type 6 rfl) q1903 ?_
    exact J_iret X rr (dt tX3_type 7 rfl) (Nat.zero_le _) (Nat.zero_le _) (pm_of (by unfold m_type; exact if_pos c1))
abbrev cX3_clearText : ByteArray := prog_12_method_50_code
def yX3_clearText : MethodName := ⟨RX3, "clearText", "()I"⟩
theorem tX3_clearText : dtab cX3_clearText [(0, .aload_n 0, 1, 1), (1, .getfield 143, 3, 4), (4, .istore_n 1, 1, 5), (5, .aload_n 0, 1, 6), (6, .iconst 0, 1, 7), (7, .putfield 143, 3, 10), (10, .iload_n 1, 1, 11), (11, .ireturn, 1, 12)] := by unfold dtab; decide +kernel
theorem okX3_clearText : okY yX3_clearText 0 := by decide +kernel
set_option maxHeartbeats 4000000 in
theorem c_clearText (l : Launch) (D : va_G) {h0 : PH} {m : Nat} {ar : Nat → Nat} (hd : md m ar) (σ : MS)   : Ct l D yX3_clearText cX3_clearText 2 (some .int) (rmM 0 0) [.ref m] (mh h0 m ar σ) (PM h0 m ar (some (.int (σ.2 3))) (sV σ 3 (nI 0))) := by
  refine Ct.of (by decide) rfl (fun Γ X rr hmn => ?_)
  have X : Cx l D cX3_clearText RX3 2 (rmM 0 0) Γ := X
  show J Γ (mh h0 m ar σ) 0 0 0 [(0, .ref m)] []
  refine J_aload_n X (dt tX3_clearText 0 rfl) 0 rfl ?_
  refine M_get_textLong X (dt tX3_clearText 1 rfl) ?_
  refine J_istore_n X (lv2 := [(1, .int (σ.2 3)), (0, .ref m)]) (dt tX3_clearText 2 rfl) rfl rfl rfl ?_
  refine J_aload_n X (dt tX3_clearText 3 rfl) 1 rfl ?_
  refine J_iconst X (nI 0) (dt tX3_clearText 4 rfl) (by decide) ?_
  refine M_put_textLong X (dt tX3_clearText 5 rfl) ?_
  refine J_iload_n X (dt tX3_clearText 6 rfl) 0 rfl ?_
  exact J_iret X rr (dt tX3_clearText 7 rfl) (Nat.zero_le _) (Nat.zero_le _) ⟨rfl, rfl⟩
def m_found (x : Int32) : Int32 := if x = -1 then -10000004 else x
abbrev cX3_found : ByteArray := prog_12_method_34_code
def yX3_found : MethodName := ⟨RX3, "found", "(I)I"⟩
theorem tX3_found : dtab cX3_found [(0, .iload_n 0, 1, 1), (1, .iconst (-1), 1, 2), (2, .if_icmp .ne 8, 3, 5), (5, .ldc 131, 2, 7), (7, .goto 4, 3, 10), (10, .iload_n 0, 1, 11), (11, .ireturn, 1, 12)] := by unfold dtab; decide +kernel
theorem okX3_found : okY yX3_found 1 := by decide +kernel
set_option maxHeartbeats 4000000 in
theorem c_found (l : Launch) (D : va_G) (h : PH) (x : Int32)  : Ct l D yX3_found cX3_found 1 (some .int) (rmM 0 0) [.int x] h (PS h (some (.int (m_found x)))) := by
  refine Ct.of (by decide) rfl (fun Γ X rr hmn => ?_)
  have X : Cx l D cX3_found RX3 1 (rmM 0 0) Γ := X
  show J Γ h 0 0 0 [(0, .int x)] []
  refine J_iload_n X (dt tX3_found 0 rfl) 0 rfl ?_
  refine J_iconst X (-1) (dt tX3_found 1 rfl) (by decide) ?_
  have kj3 : ∀ v2 : Int32, v2 = (if x = (-1) then (-10000004) else x) → J Γ h 0 0 11 [(0, .int x)] [.int v2] := by
    intro v2 ev2
    exact J_iret X rr (dt tX3_found 6 rfl) (Nat.zero_le _) (Nat.zero_le _) (by subst_vars; exact ⟨rfl, rfl⟩)
  refine J_icmp_ne X 10 (dt tX3_found 2 rfl) (by decide) (fun c1 => ?_) (fun c1 => ?_)
  · refine J_iload_n X (dt tX3_found 5 rfl) 0 rfl ?_
    exact kj3 _ (if_neg c1).symm
  · refine J_ldc X (dt tX3_found 3 rfl) q2000 ?_
    refine J_goto X (tgt := 11) (dt tX3_found 4 rfl) (by decide) ?_
    exact kj3 _ (if_pos c1).symm
abbrev cX3_leader : ByteArray := prog_12_method_36_code
def yX3_leader : MethodName := ⟨RX3, "leader", "()I"⟩
theorem tX3_leader : dtab cX3_leader [(0, .aload_n 0, 1, 1), (1, .invokevirtual 61, 3, 4), (4, .invokestatic 137, 3, 7), (7, .ireturn, 1, 8)] := by unfold dtab; decide +kernel
theorem okX3_leader : okY yX3_leader 0 := by decide +kernel
set_option maxHeartbeats 4000000 in
theorem c_leader (l : Launch) (D : va_G) {h0 : PH} {m : Nat} {ar : Nat → Nat} (hd : md m ar) (σ : MS)   : Ct l D yX3_leader cX3_leader 1 (some .int) (rmM 1 20) [.ref m] (mh h0 m ar σ) (PM h0 m ar (some (.int (m_found (m_leaderNow σ)))) σ) := by
  refine Ct.of (by decide) rfl (fun Γ X rr hmn => ?_)
  have X : Cx l D cX3_leader RX3 1 (rmM 1 20) Γ := X
  show J Γ (mh h0 m ar σ) 0 0 0 [(0, .ref m)] []
  refine J_aload_n X (dt tX3_leader 0 rfl) 0 rfl ?_
  refine M_callV (rest := []) X (dt tX3_leader 1 rfl) (c_leaderNow l D hd σ ) (lw_V q1937 q1939 qs46 q86 q1940) okX3_leaderNow rfl rfl ⟨Nat.le_of_ble_eq_true rfl, Nat.le_of_ble_eq_true rfl⟩ rfl (Nat.le_of_ble_eq_true rfl) (Nat.zero_le _) (Nat.zero_le _) ?_
  refine S_callS (rest := []) X (dt tX3_leader 2 rfl) (c_found l D _ (m_leaderNow σ) ) (lw_S q2010 q2011 q86 q2012) okX3_found rfl ⟨Nat.le_of_ble_eq_true rfl, Nat.le_of_ble_eq_true rfl⟩ rfl (Nat.le_of_ble_eq_true rfl) (Nat.zero_le _) (Nat.zero_le _) ?_
  exact J_iret X rr (dt tX3_leader 3 rfl) (Nat.zero_le _) (Nat.zero_le _) ⟨rfl, rfl⟩
def m_sumR (a : Nat → Int32) : Nat → Int32
  | 0 => 0
  | i + 1 => m_sumR a i + a (54 + i)
def m_ever (a : Nat → Int32) : Nat → Int32
  | 0 => 0
  | i + 1 => m_ever a i ||| (if a (40 + i) = -1 then 0 else if a (47 + i) = -1 then (1 : Int32) <<< (nI i &&& 31) else 0)
abbrev cX3_runsOfAll : ByteArray := prog_12_method_38_code
def yX3_runsOfAll : MethodName := ⟨RX3, "runsOfAll", "()I"⟩
theorem tX3_runsOfAll : dtab cX3_runsOfAll [(0, .iconst 0, 1, 1), (1, .istore_n 1, 1, 2), (2, .iconst 0, 1, 3), (3, .istore_n 2, 1, 4), (4, .iload_n 2, 1, 5), (5, .bipush 7, 2, 7), (7, .if_icmp .ge 21, 3, 10), (10, .iload_n 1, 1, 11), (11, .aload_n 0, 1, 12), (12, .getfield 7, 3, 15), (15, .bipush 54, 2, 17), (17, .iload_n 2, 1, 18), (18, .iadd, 1, 19), (19, .iaload, 1, 20), (20, .iadd, 1, 21), (21, .istore_n 1, 1, 22), (22, .iinc 2 1, 3, 25), (25, .goto (-21), 3, 28), (28, .iload_n 1, 1, 29), (29, .ireturn, 1, 30)] := by unfold dtab; decide +kernel
theorem okX3_runsOfAll : okY yX3_runsOfAll 0 := by decide +kernel
set_option maxHeartbeats 4000000 in
theorem c_runsOfAll (l : Launch) (D : va_G) {h0 : PH} {m : Nat} {ar : Nat → Nat} (hd : md m ar) (σ : MS)   : Ct l D yX3_runsOfAll cX3_runsOfAll 3 (some .int) (rmM 0 0) [.ref m] (mh h0 m ar σ) (PM h0 m ar (some (.int (m_sumR (σ.1 0) 7))) σ) := by
  refine Ct.of (by decide) rfl (fun Γ X rr hmn => ?_)
  have X : Cx l D cX3_runsOfAll RX3 3 (rmM 0 0) Γ := X
  show J Γ (mh h0 m ar σ) 0 0 0 [(0, .ref m)] []
  refine J_iconst X (nI 0) (dt tX3_runsOfAll 0 rfl) (by decide) ?_
  refine J_istore_n X (lv2 := [(1, .int (nI 0)), (0, .ref m)]) (dt tX3_runsOfAll 1 rfl) rfl rfl rfl ?_
  refine J_iconst X (nI 0) (dt tX3_runsOfAll 2 rfl) (by decide) ?_
  refine J_istore_n X (lv2 := [(2, .int (nI 0)), (1, .int (nI 0)), (0, .ref m)]) (dt tX3_runsOfAll 3 rfl) rfl rfl rfl ?_
  refine J_sub [2, 1, 0] rfl ?_
  refine up_to 7 (P := fun i1 => J Γ (mh h0 m ar σ) 0 0 4 [(0, .ref m), (1, .int (m_sumR (σ.1 0) i1)), (2, .int (nI i1))] []) ?_ ?_
  · show J Γ (mh h0 m ar σ) 0 0 4 [(0, .ref m), (1, .int (m_sumR (σ.1 0) 7)), (2, .int (nI 7))] []
    refine J_iload_n X (dt tX3_runsOfAll 4 rfl) 2 rfl ?_
    refine J_bipush X (nI 7) (dt tX3_runsOfAll 5 rfl) (by decide) ?_
    refine J_icmp_ge X 28 (dt tX3_runsOfAll 6 rfl) (by decide) (fun _ => ?_) (fun c9 => absurd (nI_le (Nat.le_refl 7) (by decide)) c9)
    refine J_iload_n X (dt tX3_runsOfAll 18 rfl) 1 rfl ?_
    exact J_iret X rr (dt tX3_runsOfAll 19 rfl) (Nat.zero_le _) (Nat.zero_le _) ⟨rfl, rfl⟩
  · intro i1 hi1 ih
    refine J_iload_n X (dt tX3_runsOfAll 4 rfl) 2 rfl ?_
    refine J_bipush X (nI 7) (dt tX3_runsOfAll 5 rfl) (by decide) ?_
    refine J_icmp_ge X 28 (dt tX3_runsOfAll 6 rfl) (by decide) (fun c9 => absurd c9 (nI_ge hi1 (by decide))) (fun _ => ?_)
    refine J_iload_n X (dt tX3_runsOfAll 7 rfl) 1 rfl ?_
    refine J_aload_n X (dt tX3_runsOfAll 8 rfl) 0 rfl ?_
    refine M_get_all X (dt tX3_runsOfAll 9 rfl) ?_
    refine J_bipush X (nI 54) (dt tX3_runsOfAll 10 rfl) (by decide) ?_
    refine J_iload_n X (dt tX3_runsOfAll 11 rfl) 2 rfl ?_
    refine J_iaddN X (dt tX3_runsOfAll 12 rfl) ?_
    refine M_ald_all X hd (dt tX3_runsOfAll 13 rfl) (by omega) ?_
    refine J_iadd X (dt tX3_runsOfAll 14 rfl) ?_
    refine J_istore_n X (lv2 := [(1, .int ((m_sumR (σ.1 0) i1) + (σ.1 0 (54 + i1)))), (0, .ref m), (2, .int (nI i1))]) (dt tX3_runsOfAll 15 rfl) rfl rfl rfl ?_
    refine J_iinc X (lv2 := [(2, .int (nI (i1 + 1))), (1, .int ((m_sumR (σ.1 0) i1) + (σ.1 0 (54 + i1)))), (0, .ref m)]) (dt tX3_runsOfAll 16 rfl) 2 (nI (i1 + 1)) rfl (nI_add i1 1) rfl rfl ?_
    refine J_goto X (tgt := 4) (dt tX3_runsOfAll 17 rfl) (by decide) ?_
    refine J_sub [2, 1, 0] rfl ?_
    exact ih
abbrev cX3_forEver : ByteArray := prog_12_method_39_code
def yX3_forEver : MethodName := ⟨RX3, "forEver", "()I"⟩
theorem tX3_forEver : dtab cX3_forEver [(0, .iconst 0, 1, 1), (1, .istore_n 1, 1, 2), (2, .iconst 0, 1, 3), (3, .istore_n 2, 1, 4), (4, .iload_n 2, 1, 5), (5, .bipush 7, 2, 7), (7, .if_icmp .ge 45, 3, 10), (10, .iload_n 1, 1, 11), (11, .aload_n 0, 1, 12), (12, .getfield 7, 3, 15), (15, .bipush 40, 2, 17), (17, .iload_n 2, 1, 18), (18, .iadd, 1, 19), (19, .iaload, 1, 20), (20, .iconst (-1), 1, 21), (21, .if_icmp .eq 22, 3, 24), (24, .aload_n 0, 1, 25), (25, .getfield 7, 3, 28), (28, .bipush 47, 2, 30), (30, .iload_n 2, 1, 31), (31, .iadd, 1, 32), (32, .iaload, 1, 33), (33, .iconst (-1), 1, 34), (34, .if_icmp .ne 9, 3, 37), (37, .iconst 1, 1, 38), (38, .iload_n 2, 1, 39), (39, .ishl, 1, 40), (40, .goto 4, 3, 43), (43, .iconst 0, 1, 44), (44, .ior, 1, 45), (45, .istore_n 1, 1, 46), (46, .iinc 2 1, 3, 49), (49, .goto (-45), 3, 52), (52, .iload_n 1, 1, 53), (53, .ireturn, 1, 54)] := by unfold dtab; decide +kernel
theorem okX3_forEver : okY yX3_forEver 0 := by decide +kernel
set_option maxHeartbeats 4000000 in
theorem c_forEver (l : Launch) (D : va_G) {h0 : PH} {m : Nat} {ar : Nat → Nat} (hd : md m ar) (σ : MS)   : Ct l D yX3_forEver cX3_forEver 3 (some .int) (rmM 0 0) [.ref m] (mh h0 m ar σ) (PM h0 m ar (some (.int (m_ever (σ.1 0) 7))) σ) := by
  refine Ct.of (by decide) rfl (fun Γ X rr hmn => ?_)
  have X : Cx l D cX3_forEver RX3 3 (rmM 0 0) Γ := X
  show J Γ (mh h0 m ar σ) 0 0 0 [(0, .ref m)] []
  refine J_iconst X (nI 0) (dt tX3_forEver 0 rfl) (by decide) ?_
  refine J_istore_n X (lv2 := [(1, .int (nI 0)), (0, .ref m)]) (dt tX3_forEver 1 rfl) rfl rfl rfl ?_
  refine J_iconst X (nI 0) (dt tX3_forEver 2 rfl) (by decide) ?_
  refine J_istore_n X (lv2 := [(2, .int (nI 0)), (1, .int (nI 0)), (0, .ref m)]) (dt tX3_forEver 3 rfl) rfl rfl rfl ?_
  refine J_sub [2, 1, 0] rfl ?_
  refine up_to 7 (P := fun i1 => J Γ (mh h0 m ar σ) 0 0 4 [(0, .ref m), (1, .int (m_ever (σ.1 0) i1)), (2, .int (nI i1))] []) ?_ ?_
  · show J Γ (mh h0 m ar σ) 0 0 4 [(0, .ref m), (1, .int (m_ever (σ.1 0) 7)), (2, .int (nI 7))] []
    refine J_iload_n X (dt tX3_forEver 4 rfl) 2 rfl ?_
    refine J_bipush X (nI 7) (dt tX3_forEver 5 rfl) (by decide) ?_
    refine J_icmp_ge X 52 (dt tX3_forEver 6 rfl) (by decide) (fun _ => ?_) (fun c9 => absurd (nI_le (Nat.le_refl 7) (by decide)) c9)
    refine J_iload_n X (dt tX3_forEver 33 rfl) 1 rfl ?_
    exact J_iret X rr (dt tX3_forEver 34 rfl) (Nat.zero_le _) (Nat.zero_le _) ⟨rfl, rfl⟩
  · intro i1 hi1 ih
    refine J_iload_n X (dt tX3_forEver 4 rfl) 2 rfl ?_
    refine J_bipush X (nI 7) (dt tX3_forEver 5 rfl) (by decide) ?_
    refine J_icmp_ge X 52 (dt tX3_forEver 6 rfl) (by decide) (fun c9 => absurd c9 (nI_ge hi1 (by decide))) (fun _ => ?_)
    refine J_iload_n X (dt tX3_forEver 7 rfl) 1 rfl ?_
    refine J_aload_n X (dt tX3_forEver 8 rfl) 0 rfl ?_
    refine M_get_all X (dt tX3_forEver 9 rfl) ?_
    refine J_bipush X (nI 40) (dt tX3_forEver 10 rfl) (by decide) ?_
    refine J_iload_n X (dt tX3_forEver 11 rfl) 2 rfl ?_
    refine J_iaddN X (dt tX3_forEver 12 rfl) ?_
    refine M_ald_all X hd (dt tX3_forEver 13 rfl) (by omega) ?_
    refine J_iconst X (-1) (dt tX3_forEver 14 rfl) (by decide) ?_
    have kj5 : ∀ v4 : Int32, v4 = (if (σ.1 0 (40 + i1)) = (-1) then nI 0 else if (σ.1 0 (47 + i1)) = (-1) then (nI 1) <<< ((nI i1) &&& 31) else nI 0) → J Γ (mh h0 m ar σ) 0 0 44 [(0, .ref m), (1, .int (m_ever (σ.1 0) i1)), (2, .int (nI i1))] [.int v4, .int (m_ever (σ.1 0) i1)] := by
      intro v4 ev4
      refine J_ior X (dt tX3_forEver 29 rfl) ?_
      refine J_istore_n X (lv2 := [(1, .int ((m_ever (σ.1 0) i1) ||| v4)), (0, .ref m), (2, .int (nI i1))]) (dt tX3_forEver 30 rfl) rfl rfl rfl ?_
      refine J_iinc X (lv2 := [(2, .int (nI (i1 + 1))), (1, .int ((m_ever (σ.1 0) i1) ||| v4)), (0, .ref m)]) (dt tX3_forEver 31 rfl) 2 (nI (i1 + 1)) rfl (nI_add i1 1) rfl rfl ?_
      refine J_goto X (tgt := 4) (dt tX3_forEver 32 rfl) (by decide) ?_
      refine J_sub [2, 1, 0] rfl ?_
      subst_vars
      exact ih
    refine J_icmp_eq X 43 (dt tX3_forEver 15 rfl) (by decide) (fun c2 => ?_) (fun c2 => ?_)
    · refine J_iconst X (nI 0) (dt tX3_forEver 28 rfl) (by decide) ?_
      exact kj5 _ (if_pos c2).symm
    · refine J_aload_n X (dt tX3_forEver 16 rfl) 0 rfl ?_
      refine M_get_all X (dt tX3_forEver 17 rfl) ?_
      refine J_bipush X (nI 47) (dt tX3_forEver 18 rfl) (by decide) ?_
      refine J_iload_n X (dt tX3_forEver 19 rfl) 2 rfl ?_
      refine J_iaddN X (dt tX3_forEver 20 rfl) ?_
      refine M_ald_all X hd (dt tX3_forEver 21 rfl) (by omega) ?_
      refine J_iconst X (-1) (dt tX3_forEver 22 rfl) (by decide) ?_
      refine J_icmp_ne X 43 (dt tX3_forEver 23 rfl) (by decide) (fun c3 => ?_) (fun c3 => ?_)
      · refine J_iconst X (nI 0) (dt tX3_forEver 28 rfl) (by decide) ?_
        exact kj5 _ ((if_neg c2).trans (if_neg c3)).symm
      · refine J_iconst X (nI 1) (dt tX3_forEver 24 rfl) (by decide) ?_
        refine J_iload_n X (dt tX3_forEver 25 rfl) 2 rfl ?_
        refine J_ishl X (dt tX3_forEver 26 rfl) ?_
        refine J_goto X (tgt := 44) (dt tX3_forEver 27 rfl) (by decide) ?_
        exact kj5 _ ((if_neg c2).trans (if_pos c3)).symm
def m_count (σ : MS) (x : Int32) : Int32 := if x = nI 0 then m_runners σ else if x = nI 1 then σ.1 0 0 else if x = nI 2 then m_sumR (σ.1 0) 7 else if x = nI 3 then σ.1 0 85 else if x = nI 4 then σ.2 0 else if x = nI 5 then σ.2 3 else if x = nI 6 then m_ever (σ.1 0) 7 else -10000001
abbrev cX3_count : ByteArray := prog_12_method_40_code
def yX3_count : MethodName := ⟨RX3, "count", "(I)I"⟩
theorem tX3_count : dtab cX3_count [(0, .iload_n 1, 1, 1), (1, .tableswitch 83 0 6 #[43, 48, 55, 60, 68, 73, 78], 43, 44), (44, .aload_n 0, 1, 45), (45, .invokevirtual 89, 3, 48), (48, .ireturn, 1, 49), (49, .aload_n 0, 1, 50), (50, .getfield 7, 3, 53), (53, .iconst 0, 1, 54), (54, .iaload, 1, 55), (55, .ireturn, 1, 56), (56, .aload_n 0, 1, 57), (57, .invokevirtual 140, 3, 60), (60, .ireturn, 1, 61), (61, .aload_n 0, 1, 62), (62, .getfield 7, 3, 65), (65, .bipush 85, 2, 67), (67, .iaload, 1, 68), (68, .ireturn, 1, 69), (69, .aload_n 0, 1, 70), (70, .getfield 29, 3, 73), (73, .ireturn, 1, 74), (74, .aload_n 0, 1, 75), (75, .getfield 143, 3, 78), (78, .ireturn, 1, 79), (79, .aload_n 0, 1, 80), (80, .invokevirtual 146, 3, 83), (83, .ireturn, 1, 84), (84, .ldc 28, 2, 86), (86, .ireturn, 1, 87)] := by unfold dtab; decide +kernel
theorem okX3_count : okY yX3_count 1 := by decide +kernel
set_option maxHeartbeats 4000000 in
theorem c_count (l : Launch) (D : va_G) {h0 : PH} {m : Nat} {ar : Nat → Nat} (hd : md m ar) (σ : MS) (x : Int32)  : Ct l D yX3_count cX3_count 2 (some .int) (rmM 1 22) [.ref m, .int x] (mh h0 m ar σ) (PM h0 m ar (some (.int (m_count σ x))) σ) := by
  refine Ct.of (by decide) rfl (fun Γ X rr hmn => ?_)
  have X : Cx l D cX3_count RX3 2 (rmM 1 22) Γ := X
  show J Γ (mh h0 m ar σ) 0 0 0 [(0, .ref m), (1, .int x)] []
  refine J_iload_n X (dt tX3_count 0 rfl) 1 rfl ?_
  by_cases e1_0 : x = nI 0
  · subst e1_0
    refine J_tableIn X 44 (dt tX3_count 1 rfl) (by decide) (by decide) rfl (by decide) ?_
    refine J_aload_n X (dt tX3_count 2 rfl) 0 rfl ?_
    refine M_callV (rest := []) X (dt tX3_count 3 rfl) (c_runners l D hd σ ) (lw_V q1957 q1959 qs50 q86 q1960) okX3_runners rfl rfl ⟨Nat.le_of_ble_eq_true rfl, Nat.le_of_ble_eq_true rfl⟩ rfl (Nat.le_of_ble_eq_true rfl) (Nat.zero_le _) (Nat.zero_le _) ?_
    exact J_iret X rr (dt tX3_count 4 rfl) (Nat.zero_le _) (Nat.zero_le _) ⟨congrArg (fun z => some (Value.int z)) (if_pos rfl).symm, rfl⟩
  · skip
    by_cases e1_1 : x = nI 1
    · subst e1_1
      refine J_tableIn X 49 (dt tX3_count 1 rfl) (by decide) (by decide) rfl (by decide) ?_
      refine J_aload_n X (dt tX3_count 5 rfl) 0 rfl ?_
      refine M_get_all X (dt tX3_count 6 rfl) ?_
      refine J_iconst X (nI 0) (dt tX3_count 7 rfl) (by decide) ?_
      refine M_ald_all X hd (dt tX3_count 8 rfl) (by decide) ?_
      exact J_iret X rr (dt tX3_count 9 rfl) (Nat.zero_le _) (Nat.zero_le _) ⟨congrArg (fun z => some (Value.int z)) ((if_neg e1_0).trans (if_pos rfl)).symm, rfl⟩
    · skip
      by_cases e1_2 : x = nI 2
      · subst e1_2
        refine J_tableIn X 56 (dt tX3_count 1 rfl) (by decide) (by decide) rfl (by decide) ?_
        refine J_aload_n X (dt tX3_count 10 rfl) 0 rfl ?_
        refine M_callV (rest := []) X (dt tX3_count 11 rfl) (c_runsOfAll l D hd σ ) (lw_V q2025 q2027 qs56 q86 q2028) okX3_runsOfAll rfl rfl ⟨Nat.le_of_ble_eq_true rfl, Nat.le_of_ble_eq_true rfl⟩ rfl (Nat.le_of_ble_eq_true rfl) (Nat.zero_le _) (Nat.zero_le _) ?_
        exact J_iret X rr (dt tX3_count 12 rfl) (Nat.zero_le _) (Nat.zero_le _) ⟨congrArg (fun z => some (Value.int z)) ((if_neg e1_0).trans ((if_neg e1_1).trans (if_pos rfl))).symm, rfl⟩
      · skip
        by_cases e1_3 : x = nI 3
        · subst e1_3
          refine J_tableIn X 61 (dt tX3_count 1 rfl) (by decide) (by decide) rfl (by decide) ?_
          refine J_aload_n X (dt tX3_count 13 rfl) 0 rfl ?_
          refine M_get_all X (dt tX3_count 14 rfl) ?_
          refine J_bipush X (nI 85) (dt tX3_count 15 rfl) (by decide) ?_
          refine M_ald_all X hd (dt tX3_count 16 rfl) (by decide) ?_
          exact J_iret X rr (dt tX3_count 17 rfl) (Nat.zero_le _) (Nat.zero_le _) ⟨congrArg (fun z => some (Value.int z)) ((if_neg e1_0).trans ((if_neg e1_1).trans ((if_neg e1_2).trans (if_pos rfl)))).symm, rfl⟩
        · skip
          by_cases e1_4 : x = nI 4
          · subst e1_4
            refine J_tableIn X 69 (dt tX3_count 1 rfl) (by decide) (by decide) rfl (by decide) ?_
            refine J_aload_n X (dt tX3_count 18 rfl) 0 rfl ?_
            refine M_get_historyLong X (dt tX3_count 19 rfl) ?_
            exact J_iret X rr (dt tX3_count 20 rfl) (Nat.zero_le _) (Nat.zero_le _) ⟨congrArg (fun z => some (Value.int z)) ((if_neg e1_0).trans ((if_neg e1_1).trans ((if_neg e1_2).trans ((if_neg e1_3).trans (if_pos rfl))))).symm, rfl⟩
          · skip
            by_cases e1_5 : x = nI 5
            · subst e1_5
              refine J_tableIn X 74 (dt tX3_count 1 rfl) (by decide) (by decide) rfl (by decide) ?_
              refine J_aload_n X (dt tX3_count 21 rfl) 0 rfl ?_
              refine M_get_textLong X (dt tX3_count 22 rfl) ?_
              exact J_iret X rr (dt tX3_count 23 rfl) (Nat.zero_le _) (Nat.zero_le _) ⟨congrArg (fun z => some (Value.int z)) ((if_neg e1_0).trans ((if_neg e1_1).trans ((if_neg e1_2).trans ((if_neg e1_3).trans ((if_neg e1_4).trans (if_pos rfl)))))).symm, rfl⟩
            · skip
              by_cases e1_6 : x = nI 6
              · subst e1_6
                refine J_tableIn X 79 (dt tX3_count 1 rfl) (by decide) (by decide) rfl (by decide) ?_
                refine J_aload_n X (dt tX3_count 24 rfl) 0 rfl ?_
                refine M_callV (rest := []) X (dt tX3_count 25 rfl) (c_forEver l D hd σ ) (lw_V q2029 q2031 qs57 q86 q2032) okX3_forEver rfl rfl ⟨Nat.le_of_ble_eq_true rfl, Nat.le_of_ble_eq_true rfl⟩ rfl (Nat.le_of_ble_eq_true rfl) (Nat.zero_le _) (Nat.zero_le _) ?_
                exact J_iret X rr (dt tX3_count 26 rfl) (Nat.zero_le _) (Nat.zero_le _) ⟨congrArg (fun z => some (Value.int z)) ((if_neg e1_0).trans ((if_neg e1_1).trans ((if_neg e1_2).trans ((if_neg e1_3).trans ((if_neg e1_4).trans ((if_neg e1_5).trans (if_pos rfl))))))).symm, rfl⟩
              · skip
                refine J_tableOut X 84 (dt tX3_count 1 rfl) (sw_out 6 (fun k hk => by rcases (show k = 0 ∨ k = 1 ∨ k = 2 ∨ k = 3 ∨ k = 4 ∨ k = 5 ∨ k = 6 by omega) with rfl | rfl | rfl | rfl | rfl | rfl | rfl <;> assumption)) (by decide) ?_
                refine J_ldc X (dt tX3_count 27 rfl) q1903 ?_
                exact J_iret X rr (dt tX3_count 28 rfl) (Nat.zero_le _) (Nat.zero_le _) ⟨congrArg (fun z => some (Value.int z)) ((if_neg e1_0).trans ((if_neg e1_1).trans ((if_neg e1_2).trans ((if_neg e1_3).trans ((if_neg e1_4).trans ((if_neg e1_5).trans (if_neg e1_6))))))).symm, rfl⟩
