/-! printed by gen/compw.py -/
set_option maxRecDepth 100000
theorem q764 : (Jvm.Cond.methodLink "java/util/LinkedList" (90 : Nat) ({ cls := "java/util/LinkedList", name := "checkElementIndex", desc := "(I)V" } : Jvm.MethodName)) ∈ lw_all := lw_g (lw_at lw_m3 216 rfl) rfl
theorem q766 : (Jvm.Cond.instanceMethod ({ cls := "java/util/LinkedList", name := "checkElementIndex", desc := "(I)V" } : Jvm.MethodName)) ∈ lw_all := lw_g (lw_at lw_m3 218 rfl) rfl
theorem q767 : (Jvm.Cond.code ({ cls := "java/util/LinkedList", name := "checkElementIndex", desc := "(I)V" } : Jvm.MethodName) prog_52_method_29_code (2 : Nat) (Option.none : Option Jvm.ClassFile.FieldType)) ∈ lw_all := lw_g (lw_at lw_m3 219 rfl) rfl
theorem q768 : (Jvm.Cond.methodLink "java/util/LinkedList" (115 : Nat) ({ cls := "java/util/LinkedList", name := "isElementIndex", desc := "(I)Z" } : Jvm.MethodName)) ∈ lw_all := lw_g (lw_at lw_m3 220 rfl) rfl
theorem q770 : (Jvm.Cond.instanceMethod ({ cls := "java/util/LinkedList", name := "isElementIndex", desc := "(I)Z" } : Jvm.MethodName)) ∈ lw_all := lw_g (lw_at lw_m3 222 rfl) rfl
theorem q771 : (Jvm.Cond.code ({ cls := "java/util/LinkedList", name := "isElementIndex", desc := "(I)Z" } : Jvm.MethodName) prog_52_method_26_code (2 : Nat) (Option.some Jvm.ClassFile.FieldType.boolean)) ∈ lw_all := lw_g (lw_at lw_m3 223 rfl) rfl
theorem q772 : (Jvm.Cond.methodLink "java/util/LinkedList" (86 : Nat) ({ cls := "java/util/LinkedList", name := "node", desc := "(I)Ljava/util/LinkedList$Node;" } : Jvm.MethodName)) ∈ lw_all := lw_g (lw_at lw_m3 224 rfl) rfl
theorem q773 : (Jvm.Cond.instanceMethod ({ cls := "java/util/LinkedList", name := "node", desc := "(I)Ljava/util/LinkedList$Node;" } : Jvm.MethodName)) ∈ lw_all := lw_g (lw_at lw_m3 225 rfl) rfl
theorem q774 : (Jvm.Cond.selects "java/util/LinkedList" ({ cls := "java/util/LinkedList", name := "node", desc := "(I)Ljava/util/LinkedList$Node;" } : Jvm.MethodName) ({ cls := "java/util/LinkedList", name := "node", desc := "(I)Ljava/util/LinkedList$Node;" } : Jvm.MethodName)) ∈ lw_all := lw_g (lw_at lw_m3 226 rfl) rfl
theorem q775 : (Jvm.Cond.code ({ cls := "java/util/LinkedList", name := "node", desc := "(I)Ljava/util/LinkedList$Node;" } : Jvm.MethodName) prog_52_method_31_code (4 : Nat) (Option.some (Jvm.ClassFile.FieldType.object "java/util/LinkedList$Node"))) ∈ lw_all := lw_g (lw_at lw_m3 227 rfl) rfl
theorem q1065 : (Jvm.Cond.methodLink "java/util/LinkedList" (128 : Nat) ({ cls := "java/util/LinkedList", name := "isPositionIndex", desc := "(I)Z" } : Jvm.MethodName)) ∈ lw_all := lw_g (lw_at lw_m5 37 rfl) rfl
theorem q1067 : (Jvm.Cond.instanceMethod ({ cls := "java/util/LinkedList", name := "isPositionIndex", desc := "(I)Z" } : Jvm.MethodName)) ∈ lw_all := lw_g (lw_at lw_m5 39 rfl) rfl
theorem q1068 : (Jvm.Cond.code ({ cls := "java/util/LinkedList", name := "isPositionIndex", desc := "(I)Z" } : Jvm.MethodName) prog_52_method_27_code (2 : Nat) (Option.some Jvm.ClassFile.FieldType.boolean)) ∈ lw_all := lw_g (lw_at lw_m5 40 rfl) rfl
theorem shr1 : ∀ n, n < 130 → nI n >>> (nI 1 &&& 31) = nI (n / 2) := by decide +kernel
/-- a loop that counts down from N to lo -/
theorem dn_to (lo N : Nat) (hle : lo ≤ N) {P : Nat → Prop} (h0 : P lo) (hs : ∀ j, lo ≤ j → j < N → P j → P (j + 1)) : P N := by
  have key : ∀ d, lo + d ≤ N → P (lo + d) := by
    intro d
    induction d with
    | zero => intro _; exact h0
    | succ d ih => intro hd; exact hs (lo + d) (by omega) (by omega) (ih (by omega))
  have := key (N - lo) (by omega)
  rwa [show lo + (N - lo) = N by omega] at this
abbrev cJ4_node : ByteArray := prog_52_method_31_code
def yJ4_node : MethodName := ⟨RJ4, "node", "(I)Ljava/util/LinkedList$Node;"⟩
theorem tJ4_node : dtab cJ4_node [(0, .iload_n 1, 1, 1), (1, .aload_n 0, 1, 2), (2, .getfield 7, 3, 5), (5, .iconst 1, 1, 6), (6, .ishr, 1, 7), (7, .if_icmp .ge 28, 3, 10), (10, .aload_n 0, 1, 11), (11, .getfield 18, 3, 14), (14, .astore_n 2, 1, 15), (15, .iconst 0, 1, 16), (16, .istore_n 3, 1, 17), (17, .iload_n 3, 1, 18), (18, .iload_n 1, 1, 19), (19, .if_icmp .ge 14, 3, 22), (22, .aload_n 2, 1, 23), (23, .getfield 36, 3, 26), (26, .astore_n 2, 1, 27), (27, .iinc 3 1, 3, 30), (30, .goto (-13), 3, 33), (33, .aload_n 2, 1, 34), (34, .areturn, 1, 35), (35, .aload_n 0, 1, 36), (36, .getfield 27, 3, 39), (39, .astore_n 2, 1, 40), (40, .aload_n 0, 1, 41), (41, .getfield 7, 3, 44), (44, .iconst 1, 1, 45), (45, .isub, 1, 46), (46, .istore_n 3, 1, 47), (47, .iload_n 3, 1, 48), (48, .iload_n 1, 1, 49), (49, .if_icmp .le 14, 3, 52), (52, .aload_n 2, 1, 53), (53, .getfield 30, 3, 56), (56, .astore_n 2, 1, 57), (57, .iinc 3 (-1), 3, 60), (60, .goto (-13), 3, 63), (63, .aload_n 2, 1, 64), (64, .areturn, 1, 65)] := by unfold dtab; decide +kernel
theorem okJ4_node : okY yJ4_node 1 := by decide +kernel
set_option maxHeartbeats 4000000 in
theorem c_LLnode (l : Launch) (D : va_G) (h : PH) {a n i : Nat} {md : Int32} {nd it : Nat → Nat}  (hl : LLf h a md n nd it) (hi : i < n) (hn : n < 130) : Ct l D yJ4_node cJ4_node 4 (some (.object "java/util/LinkedList$Node")) (rmC 0 0 0 0) [.ref a, .int (nI i)] h (PS h (some (.ref (nd i)))) := by
  refine Ct.of (by decide) rfl (fun Γ X rr hmn => ?_)
  have X : Cx l D cJ4_node RJ4 4 (rmC 0 0 0 0) Γ := X
  show J Γ h 0 0 0 [(0, .ref a), (1, .int (nI i))] []
  by_cases hc : i < n / 2
  · refine J_iload_n X (dt tJ4_node 0 rfl) 1 rfl ?_
    refine J_aload_n X (dt tJ4_node 1 rfl) 0 rfl ?_
    refine g_J4_7_3 X (dt tJ4_node 2 rfl) (hl.z (by omega)) rfl ?_
    refine J_iconst X (nI 1) (dt tJ4_node 3 rfl) (by decide) ?_
    refine J_ishr X (dt tJ4_node 4 rfl) ?_
    refine J_topi (shr1 n hn) ?_
    refine J_icmp_ge X 35 (dt tJ4_node 5 rfl) (by decide) (fun c9 => absurd c9 (nI_ge hc (by omega))) (fun _ => ?_)
    refine J_aload_n X (dt tJ4_node 6 rfl) 0 rfl ?_
    refine g_J4_18_3 X (dt tJ4_node 7 rfl) (hl.z (by omega)) rfl ?_
    refine J_astore_n X (lv2 := [(2, .ref (nd 0)), (0, .ref a), (1, .int (nI i))]) (dt tJ4_node 8 rfl) rfl rfl rfl ?_
    refine J_iconst X (nI 0) (dt tJ4_node 9 rfl) (by decide) ?_
    refine J_istore_n X (lv2 := [(3, .int (nI 0)), (2, .ref (nd 0)), (0, .ref a), (1, .int (nI i))]) (dt tJ4_node 10 rfl) rfl rfl rfl ?_
    refine J_sub [2, 3, 1, 0] rfl ?_
    refine up_to i (P := fun i1 => J Γ h 0 0 17 [(0, .ref a), (1, .int (nI i)), (2, .ref (nd i1)), (3, .int (nI i1))] []) ?_ ?_
    · show J Γ h 0 0 17 [(0, .ref a), (1, .int (nI i)), (2, .ref (nd i)), (3, .int (nI i))] []
      refine J_iload_n X (dt tJ4_node 11 rfl) 3 rfl ?_
      refine J_iload_n X (dt tJ4_node 12 rfl) 1 rfl ?_
      refine J_icmp_ge X 33 (dt tJ4_node 13 rfl) (by decide) (fun _ => ?_) (fun c9 => absurd (nI_le (Nat.le_refl i) (by omega)) c9)
      refine J_aload_n X (dt tJ4_node 19 rfl) 2 rfl ?_
      exact J_aret X rr (dt tJ4_node 20 rfl) (Nat.le_of_ble_eq_true rfl) (Nat.le_of_ble_eq_true rfl) (Or.inl ⟨_, rfl⟩) (Or.inr ⟨_, rfl⟩) ⟨rfl, rfl⟩
    · intro i1 hi1 ih
      refine J_iload_n X (dt tJ4_node 11 rfl) 3 rfl ?_
      refine J_iload_n X (dt tJ4_node 12 rfl) 1 rfl ?_
      refine J_icmp_ge X 33 (dt tJ4_node 13 rfl) (by decide) (fun c9 => absurd c9 (nI_ge hi1 (by omega))) (fun _ => ?_)
      refine J_aload_n X (dt tJ4_node 14 rfl) 2 rfl ?_
      refine g_J4_36_12 X (dt tJ4_node 15 rfl) (hl.2.1 i1 (by omega)) rfl ?_
      refine J_topq (rf_s (if_pos (by omega))) ?_
      refine J_astore_n X (lv2 := [(2, .ref (nd (i1 + 1))), (0, .ref a), (1, .int (nI i)), (3, .int (nI i1))]) (dt tJ4_node 16 rfl) rfl rfl rfl ?_
      refine J_iinc X (lv2 := [(3, .int (nI (i1 + 1))), (2, .ref (nd (i1 + 1))), (0, .ref a), (1, .int (nI i))]) (dt tJ4_node 17 rfl) 3 (nI (i1 + 1)) rfl (nI_add i1 1) rfl rfl ?_
      refine J_goto X (tgt := 17) (dt tJ4_node 18 rfl) (by decide) ?_
      refine J_sub [2, 3, 1, 0] rfl ?_
      exact ih
  · refine J_iload_n X (dt tJ4_node 0 rfl) 1 rfl ?_
    refine J_aload_n X (dt tJ4_node 1 rfl) 0 rfl ?_
    refine g_J4_7_3 X (dt tJ4_node 2 rfl) (hl.z (by omega)) rfl ?_
    refine J_iconst X (nI 1) (dt tJ4_node 3 rfl) (by decide) ?_
    refine J_ishr X (dt tJ4_node 4 rfl) ?_
    refine J_topi (shr1 n hn) ?_
    refine J_icmp_ge X 35 (dt tJ4_node 5 rfl) (by decide) (fun _ => ?_) (fun c9 => absurd (nI_le (by omega) (by omega)) c9)
    refine J_aload_n X (dt tJ4_node 21 rfl) 0 rfl ?_
    refine g_J4_27_3 X (dt tJ4_node 22 rfl) (hl.z (by omega)) rfl ?_
    refine J_astore_n X (lv2 := [(2, .ref (nd (n - 1))), (0, .ref a), (1, .int (nI i))]) (dt tJ4_node 23 rfl) rfl rfl rfl ?_
    refine J_aload_n X (dt tJ4_node 24 rfl) 1 rfl ?_
    refine g_J4_7_3 X (dt tJ4_node 25 rfl) (hl.z (by omega)) rfl ?_
    refine J_iconst X (nI 1) (dt tJ4_node 26 rfl) (by decide) ?_
    refine J_isubN X (dt tJ4_node 27 rfl) (by omega) ?_
    refine J_istore_n X (lv2 := [(3, .int (nI (n - 1))), (2, .ref (nd (n - 1))), (0, .ref a), (1, .int (nI i))]) (dt tJ4_node 28 rfl) rfl rfl rfl ?_
    refine J_sub [2, 3, 1, 0] rfl ?_
    refine dn_to i (n - 1) (by omega) (P := fun i2 => J Γ h 0 0 47 [(0, .ref a), (1, .int (nI i)), (2, .ref (nd i2)), (3, .int (nI i2))] []) ?_ ?_
    · show J Γ h 0 0 47 [(0, .ref a), (1, .int (nI i)), (2, .ref (nd i)), (3, .int (nI i))] []
      refine J_iload_n X (dt tJ4_node 29 rfl) 3 rfl ?_
      refine J_iload_n X (dt tJ4_node 30 rfl) 1 rfl ?_
      refine J_icmp_le X 63 (dt tJ4_node 31 rfl) (by decide) (fun _ => ?_) (fun c9 => absurd (nI_le (Nat.le_refl i) (by omega)) c9)
      refine J_aload_n X (dt tJ4_node 37 rfl) 2 rfl ?_
      exact J_aret X rr (dt tJ4_node 38 rfl) (Nat.le_of_ble_eq_true rfl) (Nat.le_of_ble_eq_true rfl) (Or.inl ⟨_, rfl⟩) (Or.inr ⟨_, rfl⟩) ⟨rfl, rfl⟩
    · intro i2 hi2 gi2 ih
      show J Γ h 0 0 47 [(0, .ref a), (1, .int (nI i)), (2, .ref (nd (i2 + 1))), (3, .int (nI (i2 + 1)))] []
      refine J_iload_n X (dt tJ4_node 29 rfl) 3 rfl ?_
      refine J_iload_n X (dt tJ4_node 30 rfl) 1 rfl ?_
      refine J_icmp_le X 63 (dt tJ4_node 31 rfl) (by decide) (fun c9 => absurd c9 (nI_ge (by omega) (by omega))) (fun _ => ?_)
      refine J_aload_n X (dt tJ4_node 32 rfl) 2 rfl ?_
      refine g_J4_30_12 X (dt tJ4_node 33 rfl) (hl.2.1 (i2 + 1) (by omega)) rfl ?_
      refine J_topq (rf_s (if_neg (by omega))) ?_
      refine J_astore_n X (lv2 := [(2, .ref (nd i2)), (0, .ref a), (1, .int (nI i)), (3, .int (nI (i2 + 1)))]) (dt tJ4_node 34 rfl) rfl rfl rfl ?_
      refine J_iinc X (lv2 := [(3, .int (nI i2)), (2, .ref (nd i2)), (0, .ref a), (1, .int (nI i))]) (dt tJ4_node 35 rfl) 3 (nI i2) rfl (pk_m1 _) rfl rfl ?_
      refine J_goto X (tgt := 47) (dt tJ4_node 36 rfl) (by decide) ?_
      refine J_sub [2, 3, 1, 0] rfl ?_
      exact ih
abbrev cJ4_isElementIndex : ByteArray := prog_52_method_26_code
def yJ4_isElementIndex : MethodName := ⟨RJ4, "isElementIndex", "(I)Z"⟩
theorem tJ4_isElementIndex : dtab cJ4_isElementIndex [(0, .iload_n 1, 1, 1), (1, .ifCond .lt 15, 3, 4), (4, .iload_n 1, 1, 5), (5, .aload_n 0, 1, 6), (6, .getfield 7, 3, 9), (9, .if_icmp .ge 7, 3, 12), (12, .iconst 1, 1, 13), (13, .goto 4, 3, 16), (16, .iconst 0, 1, 17), (17, .ireturn, 1, 18)] := by unfold dtab; decide +kernel
theorem okJ4_isElementIndex : okY yJ4_isElementIndex 1 := by decide +kernel
set_option maxHeartbeats 4000000 in
theorem c_LLie (l : Launch) (D : va_G) (h : PH) {a n i : Nat} {md : Int32} {f z : Option Nat} (ha : h a = some (eo 3 [.int md, .int (nI n), va_rf f, va_rf z])) (hi : i < n) (hn : n < 130) : Ct l D yJ4_isElementIndex cJ4_isElementIndex 2 (some .boolean) (rmC 0 0 0 0) [.ref a, .int (nI i)] h (PS h (some (.int (nI 1)))) := by
  refine Ct.of (by decide) rfl (fun Γ X rr hmn => ?_)
  have X : Cx l D cJ4_isElementIndex RJ4 2 (rmC 0 0 0 0) Γ := X
  show J Γ h 0 0 0 [(0, .ref a), (1, .int (nI i))] []
  refine J_iload_n X (dt tJ4_isElementIndex 0 rfl) 1 rfl ?_
  refine J_if_lt X 16 (dt tJ4_isElementIndex 1 rfl) (by decide) (fun c9 => absurd c9 (nI_pos (by omega))) (fun _ => ?_)
  refine J_iload_n X (dt tJ4_isElementIndex 2 rfl) 1 rfl ?_
  refine J_aload_n X (dt tJ4_isElementIndex 3 rfl) 0 rfl ?_
  refine g_J4_7_3 X (dt tJ4_isElementIndex 4 rfl) ha rfl ?_
  refine J_icmp_ge X 16 (dt tJ4_isElementIndex 5 rfl) (by decide) (fun c9 => absurd c9 (nI_ge hi (by omega))) (fun _ => ?_)
  refine J_iconst X (nI 1) (dt tJ4_isElementIndex 6 rfl) (by decide) ?_
  refine J_goto X (tgt := 17) (dt tJ4_isElementIndex 7 rfl) (by decide) ?_
  exact J_zret X rr (dt tJ4_isElementIndex 9 rfl) (Nat.le_of_ble_eq_true rfl) (Nat.le_of_ble_eq_true rfl) rfl ⟨rfl, rfl⟩
abbrev cJ4_isPositionIndex : ByteArray := prog_52_method_27_code
def yJ4_isPositionIndex : MethodName := ⟨RJ4, "isPositionIndex", "(I)Z"⟩
theorem tJ4_isPositionIndex : dtab cJ4_isPositionIndex [(0, .iload_n 1, 1, 1), (1, .ifCond .lt 15, 3, 4), (4, .iload_n 1, 1, 5), (5, .aload_n 0, 1, 6), (6, .getfield 7, 3, 9), (9, .if_icmp .gt 7, 3, 12), (12, .iconst 1, 1, 13), (13, .goto 4, 3, 16), (16, .iconst 0, 1, 17), (17, .ireturn, 1, 18)] := by unfold dtab; decide +kernel
theorem okJ4_isPositionIndex : okY yJ4_isPositionIndex 1 := by decide +kernel
set_option maxHeartbeats 4000000 in
theorem c_LLip (l : Launch) (D : va_G) (h : PH) {a n i : Nat} {md : Int32} {f z : Option Nat} (ha : h a = some (eo 3 [.int md, .int (nI n), va_rf f, va_rf z])) (hi : i ≤ n) (hn : n < 130) : Ct l D yJ4_isPositionIndex cJ4_isPositionIndex 2 (some .boolean) (rmC 0 0 0 0) [.ref a, .int (nI i)] h (PS h (some (.int (nI 1)))) := by
  refine Ct.of (by decide) rfl (fun Γ X rr hmn => ?_)
  have X : Cx l D cJ4_isPositionIndex RJ4 2 (rmC 0 0 0 0) Γ := X
  show J Γ h 0 0 0 [(0, .ref a), (1, .int (nI i))] []
  refine J_iload_n X (dt tJ4_isPositionIndex 0 rfl) 1 rfl ?_
  refine J_if_lt X 16 (dt tJ4_isPositionIndex 1 rfl) (by decide) (fun c9 => absurd c9 (nI_pos (by omega))) (fun _ => ?_)
  refine J_iload_n X (dt tJ4_isPositionIndex 2 rfl) 1 rfl ?_
  refine J_aload_n X (dt tJ4_isPositionIndex 3 rfl) 0 rfl ?_
  refine g_J4_7_3 X (dt tJ4_isPositionIndex 4 rfl) ha rfl ?_
  refine J_icmp_gt X 16 (dt tJ4_isPositionIndex 5 rfl) (by decide) (fun c9 => absurd c9 (nI_nlt hi (by omega))) (fun _ => ?_)
  refine J_iconst X (nI 1) (dt tJ4_isPositionIndex 6 rfl) (by decide) ?_
  refine J_goto X (tgt := 17) (dt tJ4_isPositionIndex 7 rfl) (by decide) ?_
  exact J_zret X rr (dt tJ4_isPositionIndex 9 rfl) (Nat.le_of_ble_eq_true rfl) (Nat.le_of_ble_eq_true rfl) rfl ⟨rfl, rfl⟩
abbrev cJ4_checkElementIndex : ByteArray := prog_52_method_29_code
def yJ4_checkElementIndex : MethodName := ⟨RJ4, "checkElementIndex", "(I)V"⟩
theorem tJ4_checkElementIndex : dtab cJ4_checkElementIndex [(0, .aload_n 0, 1, 1), (1, .iload_n 1, 1, 2), (2, .invokevirtual 115, 3, 5), (5, .ifCond .ne 16, 3, 8), (8, .new 119, 3, 11), (11, .dup, 1, 12), (12, .aload_n 0, 1, 13), (13, .iload_n 1, 1, 14), (14, .invokevirtual 121, 3, 17), (17, .invokespecial 125, 3, 20), (20, .athrow, 1, 21), (21, .return_, 1, 22)] := by unfold dtab; decide +kernel
theorem okJ4_checkElementIndex : okY yJ4_checkElementIndex 1 := by decide +kernel
set_option maxHeartbeats 4000000 in
theorem c_LLce (l : Launch) (D : va_G) (h : PH) {a n i : Nat} {md : Int32} {f z : Option Nat} (ha : h a = some (eo 3 [.int md, .int (nI n), va_rf f, va_rf z])) (hi : i < n) (hn : n < 130) : Ct l D yJ4_checkElementIndex cJ4_checkElementIndex 2 none (rmC 1 21 0 0) [.ref a, .int (nI i)] h (PS h none) := by
  refine Ct.of (by decide) rfl (fun Γ X rr hmn => ?_)
  have X : Cx l D cJ4_checkElementIndex RJ4 2 (rmC 1 21 0 0) Γ := X
  show J Γ h 0 0 0 [(0, .ref a), (1, .int (nI i))] []
  refine J_aload_n X (dt tJ4_checkElementIndex 0 rfl) 0 rfl ?_
  refine J_iload_n X (dt tJ4_checkElementIndex 1 rfl) 1 rfl ?_
  refine J_callVR (rest := []) X (T := TJ4) (dt tJ4_checkElementIndex 2 rfl) (c_LLie l D _ (i := i) (f := f) (z := z) ha (by omega) (by omega)) (lw_V q768 q770 qs12 q75 q771) okJ4_isElementIndex rfl (Or.inl ha) rfl ⟨Nat.le_of_ble_eq_true rfl, Nat.le_of_ble_eq_true rfl⟩ rfl (Nat.le_of_ble_eq_true rfl) (Nat.le_of_ble_eq_true rfl) (Nat.le_of_ble_eq_true rfl) (fun v9 h9 hp9 => ?_)
  obtain ⟨rfl, e9⟩ := hp9
  rw [e9]
  show J Γ h 0 0 5 [(0, .ref a), (1, .int (nI i))] [.int (nI 1)]
  refine J_if_ne X 21 (dt tJ4_checkElementIndex 3 rfl) (by decide) (fun _ => ?_) (fun c9 => absurd c9 (by decide))
  exact J_vret X rr (dt tJ4_checkElementIndex 11 rfl) (Nat.le_of_ble_eq_true rfl) (Nat.le_of_ble_eq_true rfl) ⟨rfl, rfl⟩
abbrev cJ4_checkPositionIndex : ByteArray := prog_52_method_30_code
def yJ4_checkPositionIndex : MethodName := ⟨RJ4, "checkPositionIndex", "(I)V"⟩
theorem tJ4_checkPositionIndex : dtab cJ4_checkPositionIndex [(0, .aload_n 0, 1, 1), (1, .iload_n 1, 1, 2), (2, .invokevirtual 128, 3, 5), (5, .ifCond .ne 16, 3, 8), (8, .new 119, 3, 11), (11, .dup, 1, 12), (12, .aload_n 0, 1, 13), (13, .iload_n 1, 1, 14), (14, .invokevirtual 121, 3, 17), (17, .invokespecial 125, 3, 20), (20, .athrow, 1, 21), (21, .return_, 1, 22)] := by unfold dtab; decide +kernel
theorem okJ4_checkPositionIndex : okY yJ4_checkPositionIndex 1 := by decide +kernel
set_option maxHeartbeats 4000000 in
theorem c_LLcp (l : Launch) (D : va_G) (h : PH) {a n i : Nat} {md : Int32} {f z : Option Nat} (ha : h a = some (eo 3 [.int md, .int (nI n), va_rf f, va_rf z])) (hi : i ≤ n) (hn : n < 130) : Ct l D yJ4_checkPositionIndex cJ4_checkPositionIndex 2 none (rmC 1 21 0 0) [.ref a, .int (nI i)] h (PS h none) := by
  refine Ct.of (by decide) rfl (fun Γ X rr hmn => ?_)
  have X : Cx l D cJ4_checkPositionIndex RJ4 2 (rmC 1 21 0 0) Γ := X
  show J Γ h 0 0 0 [(0, .ref a), (1, .int (nI i))] []
  refine J_aload_n X (dt tJ4_checkPositionIndex 0 rfl) 0 rfl ?_
  refine J_iload_n X (dt tJ4_checkPositionIndex 1 rfl) 1 rfl ?_
  refine J_callVR (rest := []) X (T := TJ4) (dt tJ4_checkPositionIndex 2 rfl) (c_LLip l D _ (i := i) (f := f) (z := z) ha (by omega) (by omega)) (lw_V q1065 q1067 qs16 q75 q1068) okJ4_isPositionIndex rfl (Or.inl ha) rfl ⟨Nat.le_of_ble_eq_true rfl, Nat.le_of_ble_eq_true rfl⟩ rfl (Nat.le_of_ble_eq_true rfl) (Nat.le_of_ble_eq_true rfl) (Nat.le_of_ble_eq_true rfl) (fun v9 h9 hp9 => ?_)
  obtain ⟨rfl, e9⟩ := hp9
  rw [e9]
  show J Γ h 0 0 5 [(0, .ref a), (1, .int (nI i))] [.int (nI 1)]
  refine J_if_ne X 21 (dt tJ4_checkPositionIndex 3 rfl) (by decide) (fun _ => ?_) (fun c9 => absurd c9 (by decide))
  exact J_vret X rr (dt tJ4_checkPositionIndex 11 rfl) (Nat.le_of_ble_eq_true rfl) (Nat.le_of_ble_eq_true rfl) ⟨rfl, rfl⟩
abbrev cJ4_get : ByteArray := prog_52_method_22_code
def yJ4_get : MethodName := ⟨RJ4, "get", "(I)Ljava/lang/Object;"⟩
theorem tJ4_get : dtab cJ4_get [(0, .aload_n 0, 1, 1), (1, .iload_n 1, 1, 2), (2, .invokevirtual 90, 3, 5), (5, .aload_n 0, 1, 6), (6, .iload_n 1, 1, 7), (7, .invokevirtual 86, 3, 10), (10, .getfield 39, 3, 13), (13, .areturn, 1, 14)] := by unfold dtab; decide +kernel
theorem okJ4_get : okY yJ4_get 1 := by decide +kernel
set_option maxHeartbeats 4000000 in
theorem c_LLget (l : Launch) (D : va_G) (h : PH) {a n i : Nat} {md : Int32} {nd it : Nat → Nat}  (hl : LLf h a md n nd it) (hi : i < n) (hn : n < 130) : Ct l D yJ4_get cJ4_get 2 (some (.object "java/lang/Object")) (rmC 2 42 0 0) [.ref a, .int (nI i)] h (PS h (some (.ref (it i)))) := by
  refine Ct.of (by decide) rfl (fun Γ X rr hmn => ?_)
  have X : Cx l D cJ4_get RJ4 2 (rmC 2 42 0 0) Γ := X
  show J Γ h 0 0 0 [(0, .ref a), (1, .int (nI i))] []
  refine J_aload_n X (dt tJ4_get 0 rfl) 0 rfl ?_
  refine J_iload_n X (dt tJ4_get 1 rfl) 1 rfl ?_
  refine J_callVR (rest := []) X (T := TJ4) (dt tJ4_get 2 rfl) (c_LLce l D _ (i := i) (f := some (nd 0)) (z := some (nd (n - 1))) (hl.z (by omega)) (by omega) (by omega)) (lw_V q764 q766 qs11 q75 q767) okJ4_checkElementIndex rfl (Or.inl (hl.z (by omega))) rfl ⟨Nat.le_of_ble_eq_true rfl, Nat.le_of_ble_eq_true rfl⟩ rfl (Nat.le_of_ble_eq_true rfl) (Nat.le_of_ble_eq_true rfl) (Nat.le_of_ble_eq_true rfl) (fun v9 h9 hp9 => ?_)
  obtain ⟨rfl, e9⟩ := hp9
  rw [e9]
  show J Γ h 0 0 5 [(0, .ref a), (1, .int (nI i))] []
  refine J_aload_n X (dt tJ4_get 3 rfl) 0 rfl ?_
  refine J_iload_n X (dt tJ4_get 4 rfl) 1 rfl ?_
  refine J_callVR (rest := []) X (T := TJ4) (dt tJ4_get 5 rfl) (c_LLnode l D _ (i := i) hl (by omega) (by omega)) (lw_V q772 q773 q774 q75 q775) okJ4_node rfl (Or.inl (hl.z (by omega))) rfl ⟨Nat.le_of_ble_eq_true rfl, Nat.le_of_ble_eq_true rfl⟩ rfl (Nat.le_of_ble_eq_true rfl) (Nat.le_of_ble_eq_true rfl) (Nat.le_of_ble_eq_true rfl) (fun v9 h9 hp9 => ?_)
  obtain ⟨rfl, e9⟩ := hp9
  rw [e9]
  show J Γ h 0 0 10 [(0, .ref a), (1, .int (nI i))] [.ref (nd i)]
  refine g_J4_39_12 X (dt tJ4_get 6 rfl) (hl.2.1 i (by omega)) rfl ?_
  exact J_aret X rr (dt tJ4_get 7 rfl) (Nat.le_of_ble_eq_true rfl) (Nat.le_of_ble_eq_true rfl) (Or.inl ⟨_, rfl⟩) (Or.inr ⟨_, rfl⟩) ⟨rfl, rfl⟩
