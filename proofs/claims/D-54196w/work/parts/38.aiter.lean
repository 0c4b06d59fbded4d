/-! printed by gen/compw.py -/
set_option maxRecDepth 100000
theorem q94 : (Jvm.Cond.initialized "java/util/Objects") ∈ lw_all := lw_g (lw_at lw_m1 26 rfl) rfl
theorem q95 : (Jvm.Cond.initialized "jdk/internal/util/Preconditions") ∈ lw_all := lw_g (lw_at lw_m1 27 rfl) rfl
theorem q98 : (Jvm.Cond.initialized "java/util/ArrayList$Itr") ∈ lw_all := lw_g (lw_at lw_m1 30 rfl) rfl
theorem q143 : (Jvm.Cond.fieldLink "java/util/ArrayList$Itr" (37 : Nat) "java/util/ArrayList" "elementData" "[Ljava/lang/Object;") ∈ lw_all := lw_g (lw_at lw_m1 75 rfl) rfl
theorem q144 : (Jvm.Cond.fieldLinkNest "java/util/ArrayList$Itr" (28 : Nat) "java/util/ArrayList" "size" "I" "java/util/ArrayList") ∈ lw_tbl := lw_at lw_m1 76 rfl
theorem q149 : (Jvm.Cond.fieldLink "java/util/ArrayList$Itr" (17 : Nat) "java/util/ArrayList" "modCount" "I") ∈ lw_all := lw_g (lw_at lw_m1 81 rfl) rfl
theorem q536 : (Jvm.Cond.methodLink "java/util/ArrayList" (118 : Nat) ({ cls := "java/util/Objects", name := "checkIndex", desc := "(II)I" } : Jvm.MethodName)) ∈ lw_all := lw_g (lw_at lw_m2 228 rfl) rfl
theorem q537 : (Jvm.Cond.static ({ cls := "java/util/Objects", name := "checkIndex", desc := "(II)I" } : Jvm.MethodName)) ∈ lw_all := lw_g (lw_at lw_m2 229 rfl) rfl
theorem q538 : (Jvm.Cond.code ({ cls := "java/util/Objects", name := "checkIndex", desc := "(II)I" } : Jvm.MethodName) prog_58_method_17_code (2 : Nat) (Option.some Jvm.ClassFile.FieldType.int)) ∈ lw_all := lw_g (lw_at lw_m2 230 rfl) rfl
theorem q539 : (Jvm.Cond.methodLink "java/util/Objects" (105 : Nat) ({ cls := "jdk/internal/util/Preconditions", name := "checkIndex", desc := "(IILjava/util/function/BiFunction;)I" } : Jvm.MethodName)) ∈ lw_all := lw_g (lw_at lw_m2 231 rfl) rfl
theorem q540 : (Jvm.Cond.static ({ cls := "jdk/internal/util/Preconditions", name := "checkIndex", desc := "(IILjava/util/function/BiFunction;)I" } : Jvm.MethodName)) ∈ lw_all := lw_g (lw_at lw_m2 232 rfl) rfl
theorem q541 : (Jvm.Cond.code ({ cls := "jdk/internal/util/Preconditions", name := "checkIndex", desc := "(IILjava/util/function/BiFunction;)I" } : Jvm.MethodName) prog_64_method_11_code (3 : Nat) (Option.some Jvm.ClassFile.FieldType.int)) ∈ lw_all := lw_g (lw_at lw_m2 233 rfl) rfl
theorem q542 : (Jvm.Cond.methodLink "java/util/ArrayList" (123 : Nat) ({ cls := "java/util/ArrayList", name := "elementData", desc := "(I)Ljava/lang/Object;" } : Jvm.MethodName)) ∈ lw_all := lw_g (lw_at lw_m2 234 rfl) rfl
theorem q543 : (Jvm.Cond.instanceMethod ({ cls := "java/util/ArrayList", name := "elementData", desc := "(I)Ljava/lang/Object;" } : Jvm.MethodName)) ∈ lw_all := lw_g (lw_at lw_m2 235 rfl) rfl
theorem q544 : (Jvm.Cond.selects "java/util/ArrayList" ({ cls := "java/util/ArrayList", name := "elementData", desc := "(I)Ljava/lang/Object;" } : Jvm.MethodName) ({ cls := "java/util/ArrayList", name := "elementData", desc := "(I)Ljava/lang/Object;" } : Jvm.MethodName)) ∈ lw_all := lw_g (lw_at lw_m2 236 rfl) rfl
theorem q545 : (Jvm.Cond.code ({ cls := "java/util/ArrayList", name := "elementData", desc := "(I)Ljava/lang/Object;" } : Jvm.MethodName) prog_44_method_18_code (2 : Nat) (Option.some (Jvm.ClassFile.FieldType.object "java/lang/Object"))) ∈ lw_all := lw_g (lw_at lw_m2 237 rfl) rfl
theorem q693 : (Jvm.Cond.classLink "java/util/ArrayList" (267 : Nat) "java/util/ArrayList$Itr") ∈ lw_all := lw_g (lw_at lw_m3 145 rfl) rfl
theorem q694 : (Jvm.Cond.instantiable "java/util/ArrayList$Itr" (4 : Nat)) ∈ lw_all := lw_g (lw_at lw_m3 146 rfl) rfl
theorem q695 : (Jvm.Cond.methodLink "java/util/ArrayList" (269 : Nat) ({ cls := "java/util/ArrayList$Itr", name := "<init>", desc := "(Ljava/util/ArrayList;)V" } : Jvm.MethodName)) ∈ lw_all := lw_g (lw_at lw_m3 147 rfl) rfl
theorem q696 : (Jvm.Cond.instanceMethod ({ cls := "java/util/ArrayList$Itr", name := "<init>", desc := "(Ljava/util/ArrayList;)V" } : Jvm.MethodName)) ∈ lw_all := lw_g (lw_at lw_m3 148 rfl) rfl
theorem q697 : (Jvm.Cond.code ({ cls := "java/util/ArrayList$Itr", name := "<init>", desc := "(Ljava/util/ArrayList;)V" } : Jvm.MethodName) prog_45_method_1_code (2 : Nat) (Option.none : Option Jvm.ClassFile.FieldType)) ∈ lw_all := lw_g (lw_at lw_m3 149 rfl) rfl
theorem q698 : (Jvm.Cond.methodLink "java/util/ArrayList$Itr" (7 : Nat) ({ cls := "java/lang/Object", name := "<init>", desc := "()V" } : Jvm.MethodName)) ∈ lw_all := lw_g (lw_at lw_m3 150 rfl) rfl
theorem q701 : (Jvm.Cond.fieldLink "java/util/ArrayList$Itr" (25 : Nat) "java/util/ArrayList$Itr" "cursor" "I") ∈ lw_all := lw_g (lw_at lw_m3 153 rfl) rfl
theorem q702 : (Jvm.Cond.fieldLink "java/util/ArrayList$Itr" (13 : Nat) "java/util/ArrayList$Itr" "lastRet" "I") ∈ lw_all := lw_g (lw_at lw_m3 154 rfl) rfl
theorem q703 : (Jvm.Cond.fieldLink "java/util/ArrayList$Itr" (22 : Nat) "java/util/ArrayList$Itr" "expectedModCount" "I") ∈ lw_all := lw_g (lw_at lw_m3 155 rfl) rfl
theorem q704 : (Jvm.Cond.fieldLink "java/util/ArrayList$Itr" (1 : Nat) "java/util/ArrayList$Itr" "this$0" "Ljava/util/ArrayList;") ∈ lw_all := lw_g (lw_at lw_m3 156 rfl) rfl
theorem q994 : (Jvm.Cond.methodLink "java/util/ArrayList$Itr" (31 : Nat) ({ cls := "java/util/ArrayList$Itr", name := "checkForComodification", desc := "()V" } : Jvm.MethodName)) ∈ lw_all := lw_g (lw_at lw_m4 206 rfl) rfl
theorem q995 : (Jvm.Cond.instanceMethod ({ cls := "java/util/ArrayList$Itr", name := "checkForComodification", desc := "()V" } : Jvm.MethodName)) ∈ lw_all := lw_g (lw_at lw_m4 207 rfl) rfl
theorem q996 : (Jvm.Cond.selects "java/util/ArrayList$Itr" ({ cls := "java/util/ArrayList$Itr", name := "checkForComodification", desc := "()V" } : Jvm.MethodName) ({ cls := "java/util/ArrayList$Itr", name := "checkForComodification", desc := "()V" } : Jvm.MethodName)) ∈ lw_all := lw_g (lw_at lw_m4 208 rfl) rfl
theorem q999 : (Jvm.Cond.code ({ cls := "java/util/ArrayList$Itr", name := "checkForComodification", desc := "()V" } : Jvm.MethodName) prog_45_method_6_code (1 : Nat) (Option.none : Option Jvm.ClassFile.FieldType)) ∈ lw_all := lw_g (lw_at lw_m4 211 rfl) rfl
def RJ18 : String := "java/util/Objects"
def RJ19 : String := "jdk/internal/util/Preconditions"
section
variable {l : Launch} {D : va_G} {cc : ByteArray} {nL : Nat} {rm : Room} {Γ : Cxt} {h : PH} {k n pc nx : Nat} {lv : List (Nat × Value)} {st : List Value}
theorem p_J21_1_13 (X : Cx l D cc RJ21 nL rm Γ) (hmn : Mn "<init>" Γ) {a : Nat} {fs fs2 : List Value} {v : Value} (d : At cc pc (.putfield 1) 3 nx) (ha : h a = some (eo 13 fs)) (hn : narrow (.object "java/util/ArrayList") v = v) (hfit : fits (.object "java/util/ArrayList") v = true) (hl2 : Nat.ble (3 + 1) fs.length = true) (hfs : fs.set 3 v = fs2) (kk : J Γ (pu h a (eo 13 fs2)) k n nx lv st) : J Γ h k n pc lv (v :: .ref a :: st) := J_putF X hmn (kf := 3) (tf := tyJ21) d ha (show vwCl[13]? = some (RJ21, TJ21, 4) from rfl) in_J21 tyJ21_ok nmJ21 rfl q704 rfl rfl rfl rfl hn hfit hl2 hfs kk
theorem p_J21_13_13 (X : Cx l D cc RJ21 nL rm Γ) {a : Nat} {fs fs2 : List Value} {v : Value} (d : At cc pc (.putfield 13) 3 nx) (ha : h a = some (eo 13 fs)) (hn : narrow (.int) v = v) (hfit : fits (.int) v = true) (hl2 : Nat.ble (1 + 1) fs.length = true) (hfs : fs.set 1 v = fs2) (kk : J Γ (pu h a (eo 13 fs2)) k n nx lv st) : J Γ h k n pc lv (v :: .ref a :: st) := J_put X (kf := 1) (tf := tyJ21) d ha (show vwCl[13]? = some (RJ21, TJ21, 4) from rfl) in_J21 tyJ21_ok nmJ21 rfl q702 rfl rfl rfl hn hfit hl2 hfs kk
theorem g_J21_1_13 (X : Cx l D cc RJ21 nL rm Γ) {a : Nat} {fs : List Value} {v : Value} (d : At cc pc (.getfield 1) 3 nx) (ha : h a = some (eo 13 fs)) (hv : fs[3]? = some v) (kk : J Γ h k n nx lv (v :: st)) : J Γ h k n pc lv (.ref a :: st) := J_get X (kf := 3) d ha (show vwCl[13]? = some (RJ21, TJ21, 4) from rfl) in_J21 rfl q704 rfl hv kk
theorem g_J21_17_2 (X : Cx l D cc RJ21 nL rm Γ) {a : Nat} {fs : List Value} {v : Value} (d : At cc pc (.getfield 17) 3 nx) (ha : h a = some (eo 2 fs)) (hv : fs[0]? = some v) (kk : J Γ h k n nx lv (v :: st)) : J Γ h k n pc lv (.ref a :: st) := J_getS X (kf := 0) d ha (show vwCl[2]? = some (RJ2, TJ2, 3) from rfl) in_J2 rfl q149 q150 hv kk
theorem p_J21_22_13 (X : Cx l D cc RJ21 nL rm Γ) {a : Nat} {fs fs2 : List Value} {v : Value} (d : At cc pc (.putfield 22) 3 nx) (ha : h a = some (eo 13 fs)) (hn : narrow (.int) v = v) (hfit : fits (.int) v = true) (hl2 : Nat.ble (2 + 1) fs.length = true) (hfs : fs.set 2 v = fs2) (kk : J Γ (pu h a (eo 13 fs2)) k n nx lv st) : J Γ h k n pc lv (v :: .ref a :: st) := J_put X (kf := 2) (tf := tyJ21) d ha (show vwCl[13]? = some (RJ21, TJ21, 4) from rfl) in_J21 tyJ21_ok nmJ21 rfl q703 rfl rfl rfl hn hfit hl2 hfs kk
theorem n_J2_267 (X : Cx l D cc RJ2 nL rm Γ) (d : At cc pc (.new 267) 3 nx) (hk : k + 1 ≤ rm.cells) (hn : n + 4 ≤ rm.slots) (kk : ∀ q, h q = none → J Γ (pu h q (eo 13 [.int (nI 0), .int (nI 0), .int (nI 0), .null])) (k + 1) (n + 4) nx lv (.ref q :: st)) : J Γ h k n pc lv st := J_new X (tf := tyJ21) d (show vwCl[13]? = some (RJ21, TJ21, 4) from rfl) in_J21 tyJ21_ok q693 q694 q98 (by decide) hk hn kk
theorem g_J21_22_13 (X : Cx l D cc RJ21 nL rm Γ) {a : Nat} {fs : List Value} {v : Value} (d : At cc pc (.getfield 22) 3 nx) (ha : h a = some (eo 13 fs)) (hv : fs[2]? = some v) (kk : J Γ h k n nx lv (v :: st)) : J Γ h k n pc lv (.ref a :: st) := J_get X (kf := 2) d ha (show vwCl[13]? = some (RJ21, TJ21, 4) from rfl) in_J21 rfl q703 rfl hv kk
theorem g_J21_25_13 (X : Cx l D cc RJ21 nL rm Γ) {a : Nat} {fs : List Value} {v : Value} (d : At cc pc (.getfield 25) 3 nx) (ha : h a = some (eo 13 fs)) (hv : fs[0]? = some v) (kk : J Γ h k n nx lv (v :: st)) : J Γ h k n pc lv (.ref a :: st) := J_get X (kf := 0) d ha (show vwCl[13]? = some (RJ21, TJ21, 4) from rfl) in_J21 rfl q701 rfl hv kk
theorem g_J21_28_2 (X : Cx l D cc RJ21 nL rm Γ) {a : Nat} {fs : List Value} {v : Value} (d : At cc pc (.getfield 28) 3 nx) (ha : h a = some (eo 2 fs)) (hv : fs[2]? = some v) (kk : J Γ h k n nx lv (v :: st)) : J Γ h k n pc lv (.ref a :: st) := J_getN X (kf := 2) d ha (show vwCl[2]? = some (RJ2, TJ2, 3) from rfl) in_J2 rfl q144 rfl hv kk
theorem g_J21_37_2 (X : Cx l D cc RJ21 nL rm Γ) {a : Nat} {fs : List Value} {v : Value} (d : At cc pc (.getfield 37) 3 nx) (ha : h a = some (eo 2 fs)) (hv : fs[1]? = some v) (kk : J Γ h k n nx lv (v :: st)) : J Γ h k n pc lv (.ref a :: st) := J_get X (kf := 1) d ha (show vwCl[2]? = some (RJ2, TJ2, 3) from rfl) in_J2 rfl q143 rfl hv kk
theorem p_J21_25_13 (X : Cx l D cc RJ21 nL rm Γ) {a : Nat} {fs fs2 : List Value} {v : Value} (d : At cc pc (.putfield 25) 3 nx) (ha : h a = some (eo 13 fs)) (hn : narrow (.int) v = v) (hfit : fits (.int) v = true) (hl2 : Nat.ble (0 + 1) fs.length = true) (hfs : fs.set 0 v = fs2) (kk : J Γ (pu h a (eo 13 fs2)) k n nx lv st) : J Γ h k n pc lv (v :: .ref a :: st) := J_put X (kf := 0) (tf := tyJ21) d ha (show vwCl[13]? = some (RJ21, TJ21, 4) from rfl) in_J21 tyJ21_ok nmJ21 rfl q701 rfl rfl rfl hn hfit hl2 hfs kk
end
abbrev cJ19_checkIndex : ByteArray := prog_64_method_11_code
def yJ19_checkIndex : MethodName := ⟨RJ19, "checkIndex", "(IILjava/util/function/BiFunction;)I"⟩
theorem tJ19_checkIndex : dtab cJ19_checkIndex [(0, .iload_n 0, 1, 1), (1, .ifCond .lt 8, 3, 4), (4, .iload_n 0, 1, 5), (5, .iload_n 1, 1, 6), (6, .if_icmp .lt 10, 3, 9), (9, .aload_n 2, 1, 10), (10, .iload_n 0, 1, 11), (11, .iload_n 1, 1, 12), (12, .invokestatic 95, 3, 15), (15, .athrow, 1, 16), (16, .iload_n 0, 1, 17), (17, .ireturn, 1, 18)] := by unfold dtab; decide +kernel
theorem okJ19_checkIndex : okY yJ19_checkIndex 3 := by decide +kernel
set_option maxHeartbeats 4000000 in
theorem c_pchk (l : Launch) (D : va_G) (h : PH) {i N : Nat} {f : Option Nat}  (hi : i < N) (hN : N < 2 ^ 31) : Ct l D yJ19_checkIndex cJ19_checkIndex 3 (some .int) (rmC 0 0 0 0) [.int (nI i), .int (nI N), va_rf f] h (PS h (some (.int (nI i)))) := by
  refine Ct.of (by decide) (by cases f <;> rfl) (fun Γ X rr hmn => ?_)
  have X : Cx l D cJ19_checkIndex RJ19 3 (rmC 0 0 0 0) Γ := X
  rw [show lv_args 0 [.int (nI i), .int (nI N), va_rf f] = [(0, .int (nI i)), (1, .int (nI N)), (2, va_rf f)] from (by cases f <;> rfl)]
  show J Γ h 0 0 0 [(0, .int (nI i)), (1, .int (nI N)), (2, va_rf f)] []
  refine J_iload_n X (dt tJ19_checkIndex 0 rfl) 0 rfl ?_
  refine J_if_lt X 9 (dt tJ19_checkIndex 1 rfl) (by decide) (fun c9 => absurd c9 (nI_pos (by omega))) (fun _ => ?_)
  refine J_iload_n X (dt tJ19_checkIndex 2 rfl) 0 rfl ?_
  refine J_iload_n X (dt tJ19_checkIndex 3 rfl) 1 rfl ?_
  refine J_icmp_lt X 16 (dt tJ19_checkIndex 4 rfl) (by decide) (fun _ => ?_) (fun c9 => absurd (nI_lt hi hN) c9)
  refine J_iload_n X (dt tJ19_checkIndex 10 rfl) 0 rfl ?_
  exact J_iret X rr (dt tJ19_checkIndex 11 rfl) (Nat.le_of_ble_eq_true rfl) (Nat.le_of_ble_eq_true rfl) ⟨rfl, rfl⟩
abbrev cJ18_checkIndex : ByteArray := prog_58_method_17_code
def yJ18_checkIndex : MethodName := ⟨RJ18, "checkIndex", "(II)I"⟩
theorem tJ18_checkIndex : dtab cJ18_checkIndex [(0, .iload_n 0, 1, 1), (1, .iload_n 1, 1, 2), (2, .aconst_null, 1, 3), (3, .invokestatic 105, 3, 6), (6, .ireturn, 1, 7)] := by unfold dtab; decide +kernel
theorem okJ18_checkIndex : okY yJ18_checkIndex 2 := by decide +kernel
set_option maxHeartbeats 4000000 in
theorem c_ochk (l : Launch) (D : va_G) (h : PH) {i N : Nat}  (hi : i < N) (hN : N < 2 ^ 31) : Ct l D yJ18_checkIndex cJ18_checkIndex 2 (some .int) (rmC 1 22 0 0) [.int (nI i), .int (nI N)] h (PS h (some (.int (nI i)))) := by
  refine Ct.of (by decide) rfl (fun Γ X rr hmn => ?_)
  have X : Cx l D cJ18_checkIndex RJ18 2 (rmC 1 22 0 0) Γ := X
  show J Γ h 0 0 0 [(0, .int (nI i)), (1, .int (nI N))] []
  refine J_iload_n X (dt tJ18_checkIndex 0 rfl) 0 rfl ?_
  refine J_iload_n X (dt tJ18_checkIndex 1 rfl) 1 rfl ?_
  refine J_null X (dt tJ18_checkIndex 2 rfl) ?_
  refine J_callS (rest := []) X (dt tJ18_checkIndex 3 rfl) (c_pchk l D _ (i := i) (N := N) (f := none) (by omega) (by omega)) (lw_S q539 q540 q95 q541) okJ19_checkIndex rfl ⟨Nat.le_of_ble_eq_true rfl, Nat.le_of_ble_eq_true rfl⟩ rfl (Nat.le_of_ble_eq_true rfl) (Nat.le_of_ble_eq_true rfl) (Nat.le_of_ble_eq_true rfl) (fun v9 h9 hp9 => ?_)
  obtain ⟨rfl, e9⟩ := hp9
  rw [e9]
  show J Γ h 0 0 6 [(0, .int (nI i)), (1, .int (nI N))] [.int (nI i)]
  exact J_iret X rr (dt tJ18_checkIndex 4 rfl) (Nat.le_of_ble_eq_true rfl) (Nat.le_of_ble_eq_true rfl) ⟨rfl, rfl⟩
abbrev cJ2_elementData : ByteArray := prog_44_method_18_code
def yJ2_elementData : MethodName := ⟨RJ2, "elementData", "(I)Ljava/lang/Object;"⟩
theorem tJ2_elementData : dtab cJ2_elementData [(0, .aload_n 0, 1, 1), (1, .getfield 9, 3, 4), (4, .iload_n 1, 1, 5), (5, .aaload, 1, 6), (6, .areturn, 1, 7)] := by unfold dtab; decide +kernel
theorem okJ2_elementData : okY yJ2_elementData 1 := by decide +kernel
set_option maxHeartbeats 4000000 in
theorem c_LAel (l : Launch) (D : va_G) (h : PH) {a ea N M : Nat} {md : Int32} {f : Nat → Option Nat} {i : Nat} (ha : h a = some (eo 2 [.int md, .ref ea, .int (nI N)])) (he : h ea = some (eO M f)) (hi : i < N) (hNM : N ≤ M) (hM : M < 2 ^ 31) : Ct l D yJ2_elementData cJ2_elementData 2 (some (.object "java/lang/Object")) (rmC 0 0 0 0) [.ref a, .int (nI i)] h (PS h (some (va_rf (f i)))) := by
  refine Ct.of (by decide) rfl (fun Γ X rr hmn => ?_)
  have X : Cx l D cJ2_elementData RJ2 2 (rmC 0 0 0 0) Γ := X
  show J Γ h 0 0 0 [(0, .ref a), (1, .int (nI i))] []
  refine J_aload_n X (dt tJ2_elementData 0 rfl) 0 rfl ?_
  refine g_J2_9_2 X (dt tJ2_elementData 1 rfl) ha rfl ?_
  refine J_iload_n X (dt tJ2_elementData 2 rfl) 1 rfl ?_
  refine J_oald X (dt tJ2_elementData 3 rfl) he (by omega) (by omega) ?_
  exact J_aret X rr (dt tJ2_elementData 4 rfl) (Nat.le_of_ble_eq_true rfl) (Nat.le_of_ble_eq_true rfl) (Or.inl ⟨_, rfl⟩) (isr_q _) ⟨rfl, rfl⟩
abbrev cJ2_get : ByteArray := prog_44_method_20_code
def yJ2_get : MethodName := ⟨RJ2, "get", "(I)Ljava/lang/Object;"⟩
theorem tJ2_get : dtab cJ2_get [(0, .iload_n 1, 1, 1), (1, .aload_n 0, 1, 2), (2, .getfield 48, 3, 5), (5, .invokestatic 118, 3, 8), (8, .pop, 1, 9), (9, .aload_n 0, 1, 10), (10, .iload_n 1, 1, 11), (11, .invokevirtual 123, 3, 14), (14, .areturn, 1, 15)] := by unfold dtab; decide +kernel
theorem okJ2_get : okY yJ2_get 1 := by decide +kernel
set_option maxHeartbeats 4000000 in
theorem c_LAget (l : Launch) (D : va_G) (h : PH) {a ea N M : Nat} {md : Int32} {f : Nat → Option Nat} {i : Nat} (ha : h a = some (eo 2 [.int md, .ref ea, .int (nI N)])) (he : h ea = some (eO M f)) (hi : i < N) (hNM : N ≤ M) (hM : M < 2 ^ 31) : Ct l D yJ2_get cJ2_get 2 (some (.object "java/lang/Object")) (rmC 2 43 0 0) [.ref a, .int (nI i)] h (PS h (some (va_rf (f i)))) := by
  refine Ct.of (by decide) rfl (fun Γ X rr hmn => ?_)
  have X : Cx l D cJ2_get RJ2 2 (rmC 2 43 0 0) Γ := X
  show J Γ h 0 0 0 [(0, .ref a), (1, .int (nI i))] []
  refine J_iload_n X (dt tJ2_get 0 rfl) 1 rfl ?_
  refine J_aload_n X (dt tJ2_get 1 rfl) 0 rfl ?_
  refine g_J2_48_2 X (dt tJ2_get 2 rfl) ha rfl ?_
  refine J_callS (rest := []) X (dt tJ2_get 3 rfl) (c_ochk l D _ (i := i) (N := N) (by omega) (by omega)) (lw_S q536 q537 q94 q538) okJ18_checkIndex rfl ⟨Nat.le_of_ble_eq_true rfl, Nat.le_of_ble_eq_true rfl⟩ rfl (Nat.le_of_ble_eq_true rfl) (Nat.le_of_ble_eq_true rfl) (Nat.le_of_ble_eq_true rfl) (fun v9 h9 hp9 => ?_)
  obtain ⟨rfl, e9⟩ := hp9
  rw [e9]
  show J Γ h 0 0 8 [(0, .ref a), (1, .int (nI i))] [.int (nI i)]
  refine J_pop X (dt tJ2_get 4 rfl) rfl ?_
  refine J_aload_n X (dt tJ2_get 5 rfl) 0 rfl ?_
  refine J_iload_n X (dt tJ2_get 6 rfl) 1 rfl ?_
  refine J_callVR (rest := []) X (T := TJ2) (dt tJ2_get 7 rfl) (c_LAel l D _ ha he (by omega) (by omega) (by omega)) (lw_V q542 q543 q544 q73 q545) okJ2_elementData rfl (Or.inl ha) rfl ⟨Nat.le_of_ble_eq_true rfl, Nat.le_of_ble_eq_true rfl⟩ rfl (Nat.le_of_ble_eq_true rfl) (Nat.le_of_ble_eq_true rfl) (Nat.le_of_ble_eq_true rfl) (fun v9 h9 hp9 => ?_)
  obtain ⟨rfl, e9⟩ := hp9
  rw [e9]
  show J Γ h 0 0 14 [(0, .ref a), (1, .int (nI i))] [va_rf (f i)]
  exact J_aret X rr (dt tJ2_get 8 rfl) (Nat.le_of_ble_eq_true rfl) (Nat.le_of_ble_eq_true rfl) (Or.inl ⟨_, rfl⟩) (isr_q _) ⟨rfl, rfl⟩
abbrev cJ21_init : ByteArray := prog_45_method_1_code
def yJ21_init : MethodName := ⟨RJ21, "<init>", "(Ljava/util/ArrayList;)V"⟩
theorem tJ21_init : dtab cJ21_init [(0, .aload_n 0, 1, 1), (1, .aload_n 1, 1, 2), (2, .putfield 1, 3, 5), (5, .aload_n 0, 1, 6), (6, .invokespecial 7, 3, 9), (9, .aload_n 0, 1, 10), (10, .iconst (-1), 1, 11), (11, .putfield 13, 3, 14), (14, .aload_n 0, 1, 15), (15, .aload_n 0, 1, 16), (16, .getfield 1, 3, 19), (19, .getfield 17, 3, 22), (22, .putfield 22, 3, 25), (25, .return_, 1, 26)] := by unfold dtab; decide +kernel
theorem okJ21_init : okY yJ21_init 1 := by decide +kernel
set_option maxHeartbeats 4000000 in
theorem c_ITinit (l : Launch) (D : va_G) (h : PH) {a ea N M : Nat} {md : Int32} {f : Nat → Option Nat} {b : Nat} (hb : h b = some (eo 13 [.int (nI 0), .int (nI 0), .int (nI 0), .null])) (ha : h a = some (eo 2 [.int md, .ref ea, .int (nI N)]))  : Ct l D yJ21_init cJ21_init 2 none (rmC 1 20 0 0) [.ref b, .ref a] h (PS (pu h b (eo 13 [.int (nI 0), .int (-1), .int md, .ref a])) none) := by
  refine Ct.of (by decide) rfl (fun Γ X rr hmn => ?_)
  have X : Cx l D cJ21_init RJ21 2 (rmC 1 20 0 0) Γ := X
  show J Γ h 0 0 0 [(0, .ref b), (1, .ref a)] []
  refine J_aload_n X (dt tJ21_init 0 rfl) 0 rfl ?_
  refine J_aload_n X (dt tJ21_init 1 rfl) 1 rfl ?_
  refine p_J21_1_13 X hmn (fs2 := [.int (nI 0), .int (nI 0), .int (nI 0), .ref a]) (dt tJ21_init 2 rfl) hb rfl rfl rfl rfl ?_
  refine J_aload_n X (dt tJ21_init 3 rfl) 0 rfl ?_
  refine J_objI X (dt tJ21_init 4 rfl) q698 q118 q119 (Nat.le_of_ble_eq_true rfl) (Nat.le_of_ble_eq_true rfl) ?_
  refine J_aload_n X (dt tJ21_init 5 rfl) 0 rfl ?_
  refine J_iconst X (-1) (dt tJ21_init 6 rfl) (by decide) ?_
  refine p_J21_13_13 X (fs2 := [.int (nI 0), .int (-1), .int (nI 0), .ref a]) (dt tJ21_init 7 rfl) (pu_s _ _ _) rfl rfl rfl rfl ?_
  refine J_heap (h2 := pu h b (eo 13 [.int (nI 0), .int (-1), .int (nI 0), .ref a])) (pu_pu _ _ _ _) ?_
  refine J_aload_n X (dt tJ21_init 8 rfl) 0 rfl ?_
  refine J_aload_n X (dt tJ21_init 9 rfl) 0 rfl ?_
  refine g_J21_1_13 X (dt tJ21_init 10 rfl) (pu_s _ _ _) rfl ?_
  refine g_J21_17_2 X (dt tJ21_init 11 rfl) (pu_o (ne_c ha hb (by decide)) ha) rfl ?_
  refine p_J21_22_13 X (fs2 := [.int (nI 0), .int (-1), .int md, .ref a]) (dt tJ21_init 12 rfl) (pu_s _ _ _) rfl rfl rfl rfl ?_
  refine J_heap (h2 := pu h b (eo 13 [.int (nI 0), .int (-1), .int md, .ref a])) (pu_pu _ _ _ _) ?_
  exact J_vret X rr (dt tJ21_init 13 rfl) (Nat.le_of_ble_eq_true rfl) (Nat.le_of_ble_eq_true rfl) ⟨rfl, rfl⟩
abbrev cJ2_iterator : ByteArray := prog_44_method_55_code
def yJ2_iterator : MethodName := ⟨RJ2, "iterator", "()Ljava/util/Iterator;"⟩
theorem tJ2_iterator : dtab cJ2_iterator [(0, .new 267, 3, 3), (3, .dup, 1, 4), (4, .aload_n 0, 1, 5), (5, .invokespecial 269, 3, 8), (8, .areturn, 1, 9)] := by unfold dtab; decide +kernel
theorem okJ2_iterator : okY yJ2_iterator 0 := by decide +kernel
set_option maxHeartbeats 4000000 in
theorem c_LAiter (l : Launch) (D : va_G) (h : PH) {a ea N M : Nat} {md : Int32} {f : Nat → Option Nat} (ha : h a = some (eo 2 [.int md, .ref ea, .int (nI N)]))  : Ct l D yJ2_iterator cJ2_iterator 1 (some (.object "java/util/Iterator")) (rmC 2 41 1 4) [.ref a] h (fun v h2 => ∃ q, h q = none ∧ v = some (.ref q) ∧ h2 = pu h q (eo 13 [.int (nI 0), .int (-1), .int md, .ref a])) := by
  refine Ct.of (by decide) rfl (fun Γ X rr hmn => ?_)
  have X : Cx l D cJ2_iterator RJ2 1 (rmC 2 41 1 4) Γ := X
  show J Γ h 0 0 0 [(0, .ref a)] []
  refine n_J2_267 X (dt tJ2_iterator 0 rfl) (Nat.le_of_ble_eq_true rfl) (Nat.le_of_ble_eq_true rfl) (fun q1 fq1 => ?_)
  refine J_dup X (dt tJ2_iterator 1 rfl) rfl ?_
  refine J_aload_n X (dt tJ2_iterator 2 rfl) 0 rfl ?_
  refine J_callI (rest := [.ref q1]) X (dt tJ2_iterator 3 rfl) (c_ITinit l D _ (M := 0) (f := fun _ => none) (pu_s _ _ _) (pu_o (ne_f ha fq1) ha)) (lw_meth q697) q98 q695 q696 rfl okJ21_init rfl ⟨Nat.le_of_ble_eq_true rfl, Nat.le_of_ble_eq_true rfl⟩ rfl (Nat.le_of_ble_eq_true rfl) (Nat.le_of_ble_eq_true rfl) (Nat.le_of_ble_eq_true rfl) (fun v9 h9 hp9 => ?_)
  obtain ⟨rfl, e9⟩ := hp9
  rw [e9]
  refine J_heap (h2 := pu h q1 (eo 13 [.int (nI 0), .int (-1), .int md, .ref a])) (pu_pu _ _ _ _) ?_
  show J Γ (pu h q1 (eo 13 [.int (nI 0), .int (-1), .int md, .ref a])) 1 4 8 [(0, .ref a)] [.ref q1]
  exact J_aret X rr (dt tJ2_iterator 4 rfl) (Nat.le_of_ble_eq_true rfl) (Nat.le_of_ble_eq_true rfl) (Or.inl ⟨_, rfl⟩) (Or.inr ⟨_, rfl⟩) ⟨_, fq1, rfl, rfl⟩
abbrev cJ21_checkForComodification : ByteArray := prog_45_method_6_code
def yJ21_checkForComodification : MethodName := ⟨RJ21, "checkForComodification", "()V"⟩
theorem tJ21_checkForComodification : dtab cJ21_checkForComodification [(0, .aload_n 0, 1, 1), (1, .getfield 1, 3, 4), (4, .getfield 17, 3, 7), (7, .aload_n 0, 1, 8), (8, .getfield 22, 3, 11), (11, .if_icmp .eq 11, 3, 14), (14, .new 41, 3, 17), (17, .dup, 1, 18), (18, .invokespecial 43, 3, 21), (21, .athrow, 1, 22), (22, .return_, 1, 23)] := by unfold dtab; decide +kernel
theorem okJ21_checkForComodification : okY yJ21_checkForComodification 0 := by decide +kernel
set_option maxHeartbeats 4000000 in
theorem c_ITchk (l : Launch) (D : va_G) (h : PH) {a ea b c N : Nat} {md lr : Int32} (hb : h b = some (eo 13 [.int (nI c), .int lr, .int md, .ref a])) (ha : h a = some (eo 2 [.int md, .ref ea, .int (nI N)]))  : Ct l D yJ21_checkForComodification cJ21_checkForComodification 1 none (rmC 0 0 0 0) [.ref b] h (PS h none) := by
  refine Ct.of (by decide) rfl (fun Γ X rr hmn => ?_)
  have X : Cx l D cJ21_checkForComodification RJ21 1 (rmC 0 0 0 0) Γ := X
  show J Γ h 0 0 0 [(0, .ref b)] []
  refine J_aload_n X (dt tJ21_checkForComodification 0 rfl) 0 rfl ?_
  refine g_J21_1_13 X (dt tJ21_checkForComodification 1 rfl) hb rfl ?_
  refine g_J21_17_2 X (dt tJ21_checkForComodification 2 rfl) ha rfl ?_
  refine J_aload_n X (dt tJ21_checkForComodification 3 rfl) 0 rfl ?_
  refine g_J21_22_13 X (dt tJ21_checkForComodification 4 rfl) hb rfl ?_
  refine J_icmp_eq X 22 (dt tJ21_checkForComodification 5 rfl) (by decide) (fun _ => ?_) (fun c9 => absurd (rfl) c9)
  exact J_vret X rr (dt tJ21_checkForComodification 10 rfl) (Nat.le_of_ble_eq_true rfl) (Nat.le_of_ble_eq_true rfl) ⟨rfl, rfl⟩
abbrev cJ21_hasNext : ByteArray := prog_45_method_2_code
def yJ21_hasNext : MethodName := ⟨RJ21, "hasNext", "()Z"⟩
theorem tJ21_hasNext : dtab cJ21_hasNext [(0, .aload_n 0, 1, 1), (1, .getfield 25, 3, 4), (4, .aload_n 0, 1, 5), (5, .getfield 1, 3, 8), (8, .getfield 28, 3, 11), (11, .if_icmp .eq 7, 3, 14), (14, .iconst 1, 1, 15), (15, .goto 4, 3, 18), (18, .iconst 0, 1, 19), (19, .ireturn, 1, 20)] := by unfold dtab; decide +kernel
theorem okJ21_hasNext : okY yJ21_hasNext 0 := by decide +kernel
set_option maxHeartbeats 4000000 in
theorem c_IThas (l : Launch) (D : va_G) (h : PH) {a ea b c N : Nat} {md lr : Int32} (hb : h b = some (eo 13 [.int (nI c), .int lr, .int md, .ref a])) (ha : h a = some (eo 2 [.int md, .ref ea, .int (nI N)]))  : Ct l D yJ21_hasNext cJ21_hasNext 1 (some .boolean) (rmC 0 0 0 0) [.ref b] h (PS h (some (.int (if nI c = nI N then nI 0 else nI 1)))) := by
  refine Ct.of (by decide) rfl (fun Γ X rr hmn => ?_)
  have X : Cx l D cJ21_hasNext RJ21 1 (rmC 0 0 0 0) Γ := X
  show J Γ h 0 0 0 [(0, .ref b)] []
  refine J_aload_n X (dt tJ21_hasNext 0 rfl) 0 rfl ?_
  refine g_J21_25_13 X (dt tJ21_hasNext 1 rfl) hb rfl ?_
  refine J_aload_n X (dt tJ21_hasNext 2 rfl) 0 rfl ?_
  refine g_J21_1_13 X (dt tJ21_hasNext 3 rfl) hb rfl ?_
  refine g_J21_28_2 X (dt tJ21_hasNext 4 rfl) ha rfl ?_
  have kj3 : ∀ v2 : Int32, v2 = (if (nI c) = (nI N) then nI 0 else nI 1) → J Γ h 0 0 19 [(0, .ref b)] [.int v2] := by
    intro v2 ev2
    exact J_zret X rr (dt tJ21_hasNext 9 rfl) (Nat.le_of_ble_eq_true rfl) (Nat.le_of_ble_eq_true rfl) (isB.nar (by rw [ev2]; exact isB_ite isB_0 isB_1)) ⟨congrArg (fun z => some (Value.int z)) ev2, rfl⟩
  refine J_icmp_eq X 18 (dt tJ21_hasNext 5 rfl) (by decide) (fun c1 => ?_) (fun c1 => ?_)
  · refine J_iconst X (nI 0) (dt tJ21_hasNext 8 rfl) (by decide) ?_
    exact kj3 _ (if_pos c1).symm
  · refine J_iconst X (nI 1) (dt tJ21_hasNext 6 rfl) (by decide) ?_
    refine J_goto X (tgt := 19) (dt tJ21_hasNext 7 rfl) (by decide) ?_
    exact kj3 _ (if_neg c1).symm
abbrev cJ21_next : ByteArray := prog_45_method_3_code
def yJ21_next : MethodName := ⟨RJ21, "next", "()Ljava/lang/Object;"⟩
theorem tJ21_next : dtab cJ21_next [(0, .aload_n 0, 1, 1), (1, .invokevirtual 31, 3, 4), (4, .aload_n 0, 1, 5), (5, .getfield 25, 3, 8), (8, .istore_n 1, 1, 9), (9, .iload_n 1, 1, 10), (10, .aload_n 0, 1, 11), (11, .getfield 1, 3, 14), (14, .getfield 28, 3, 17), (17, .if_icmp .lt 11, 3, 20), (20, .new 34, 3, 23), (23, .dup, 1, 24), (24, .invokespecial 36, 3, 27), (27, .athrow, 1, 28), (28, .aload_n 0, 1, 29), (29, .getfield 1, 3, 32), (32, .getfield 37, 3, 35), (35, .astore_n 2, 1, 36), (36, .iload_n 1, 1, 37), (37, .aload_n 2, 1, 38), (38, .arraylength, 1, 39), (39, .if_icmp .lt 11, 3, 42), (42, .new 41, 3, 45), (45, .dup, 1, 46), (46, .invokespecial 43, 3, 49), (49, .athrow, 1, 50), (50, .aload_n 0, 1, 51), (51, .iload_n 1, 1, 52), (52, .iconst 1, 1, 53), (53, .iadd, 1, 54), (54, .putfield 25, 3, 57), (57, .aload_n 2, 1, 58), (58, .aload_n 0, 1, 59), (59, .iload_n 1, 1, 60), (60, .dup_x1, 1, 61), (61, .putfield 13, 3, 64), (64, .aaload, 1, 65), (65, .areturn, 1, 66)] := by unfold dtab; decide +kernel
theorem okJ21_next : okY yJ21_next 0 := by decide +kernel
set_option maxHeartbeats 4000000 in
theorem c_ITnext (l : Launch) (D : va_G) (h : PH) {a ea b c N : Nat} {md lr : Int32} {M : Nat} {f : Nat → Option Nat} (hb : h b = some (eo 13 [.int (nI c), .int lr, .int md, .ref a])) (ha : h a = some (eo 2 [.int md, .ref ea, .int (nI N)])) (he : h ea = some (eO M f)) (hi : c < N) (hNM : N ≤ M) (hM : M < 2 ^ 31) : Ct l D yJ21_next cJ21_next 3 (some (.object "java/lang/Object")) (rmC 1 20 0 0) [.ref b] h (PS (pu h b (eo 13 [.int (nI (c + 1)), .int (nI c), .int md, .ref a])) (some (va_rf (f c)))) := by
  refine Ct.of (by decide) rfl (fun Γ X rr hmn => ?_)
  have X : Cx l D cJ21_next RJ21 3 (rmC 1 20 0 0) Γ := X
  show J Γ h 0 0 0 [(0, .ref b)] []
  refine J_aload_n X (dt tJ21_next 0 rfl) 0 rfl ?_
  refine J_callVR (rest := []) X (T := TJ21) (dt tJ21_next 1 rfl) (c_ITchk l D _ hb ha) (lw_V q994 q995 q996 q98 q999) okJ21_checkForComodification rfl (Or.inl hb) rfl ⟨Nat.le_of_ble_eq_true rfl, Nat.le_of_ble_eq_true rfl⟩ rfl (Nat.le_of_ble_eq_true rfl) (Nat.le_of_ble_eq_true rfl) (Nat.le_of_ble_eq_true rfl) (fun v9 h9 hp9 => ?_)
  obtain ⟨rfl, e9⟩ := hp9
  rw [e9]
  show J Γ h 0 0 4 [(0, .ref b)] []
  refine J_aload_n X (dt tJ21_next 2 rfl) 0 rfl ?_
  refine g_J21_25_13 X (dt tJ21_next 3 rfl) hb rfl ?_
  refine J_istore_n X (lv2 := [(1, .int (nI c)), (0, .ref b)]) (dt tJ21_next 4 rfl) rfl rfl rfl ?_
  refine J_iload_n X (dt tJ21_next 5 rfl) 0 rfl ?_
  refine J_aload_n X (dt tJ21_next 6 rfl) 1 rfl ?_
  refine g_J21_1_13 X (dt tJ21_next 7 rfl) hb rfl ?_
  refine g_J21_28_2 X (dt tJ21_next 8 rfl) ha rfl ?_
  refine J_icmp_lt X 28 (dt tJ21_next 9 rfl) (by decide) (fun _ => ?_) (fun c9 => absurd (nI_lt hi (by omega)) c9)
  refine J_aload_n X (dt tJ21_next 14 rfl) 1 rfl ?_
  refine g_J21_1_13 X (dt tJ21_next 15 rfl) hb rfl ?_
  refine g_J21_37_2 X (dt tJ21_next 16 rfl) ha rfl ?_
  refine J_astore_n X (lv2 := [(2, .ref ea), (1, .int (nI c)), (0, .ref b)]) (dt tJ21_next 17 rfl) rfl rfl rfl ?_
  refine J_iload_n X (dt tJ21_next 18 rfl) 1 rfl ?_
  refine J_aload_n X (dt tJ21_next 19 rfl) 0 rfl ?_
  refine J_alen X (dt tJ21_next 20 rfl) he rfl ?_
  show J Γ h 0 0 39 [(2, .ref ea), (1, .int (nI c)), (0, .ref b)] [.int (nI M), .int (nI c)]
  refine J_icmp_lt X 50 (dt tJ21_next 21 rfl) (by decide) (fun _ => ?_) (fun c9 => absurd (nI_lt (by omega) hM) c9)
  refine J_aload_n X (dt tJ21_next 26 rfl) 2 rfl ?_
  refine J_iload_n X (dt tJ21_next 27 rfl) 1 rfl ?_
  refine J_iconst X (nI 1) (dt tJ21_next 28 rfl) (by decide) ?_
  refine J_iaddN X (dt tJ21_next 29 rfl) ?_
  refine p_J21_25_13 X (fs2 := [.int (nI (c + 1)), .int lr, .int md, .ref a]) (dt tJ21_next 30 rfl) hb rfl rfl rfl rfl ?_
  refine J_aload_n X (dt tJ21_next 31 rfl) 0 rfl ?_
  refine J_aload_n X (dt tJ21_next 32 rfl) 2 rfl ?_
  refine J_iload_n X (dt tJ21_next 33 rfl) 1 rfl ?_
  refine J_dup_x1 X (dt tJ21_next 34 rfl) rfl rfl ?_
  refine p_J21_13_13 X (fs2 := [.int (nI (c + 1)), .int (nI c), .int md, .ref a]) (dt tJ21_next 35 rfl) (pu_s _ _ _) rfl rfl rfl rfl ?_
  refine J_heap (h2 := pu h b (eo 13 [.int (nI (c + 1)), .int (nI c), .int md, .ref a])) (pu_pu _ _ _ _) ?_
  refine J_oald X (dt tJ21_next 36 rfl) (pu_o (Ne.symm (ne_oa hb he)) he) (by omega) (by omega) ?_
  exact J_aret X rr (dt tJ21_next 37 rfl) (Nat.le_of_ble_eq_true rfl) (Nat.le_of_ble_eq_true rfl) (Or.inl ⟨_, rfl⟩) (isr_q _) ⟨rfl, rfl⟩
