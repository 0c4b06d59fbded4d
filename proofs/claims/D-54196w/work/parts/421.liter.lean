/-! printed by gen/compw.py -/
set_option maxRecDepth 100000
theorem q104 : (Jvm.Cond.initialized "java/util/LinkedList$ListItr") ∈ lw_all := lw_g (lw_at lw_m1 36 rfl) rfl
theorem q147 : (Jvm.Cond.fieldLink "java/util/LinkedList$ListItr" (13 : Nat) "java/util/LinkedList" "modCount" "I") ∈ lw_all := lw_g (lw_at lw_m1 79 rfl) rfl
theorem q171 : (Jvm.Cond.fieldLink "java/util/LinkedList$ListItr" (22 : Nat) "java/util/LinkedList" "size" "I") ∈ lw_all := lw_g (lw_at lw_m1 103 rfl) rfl
theorem q647 : (Jvm.Cond.fieldLink "java/util/LinkedList$ListItr" (52 : Nat) "java/util/LinkedList$Node" "item" "Ljava/lang/Object;") ∈ lw_all := lw_g (lw_at lw_m3 99 rfl) rfl
theorem q650 : (Jvm.Cond.fieldLink "java/util/LinkedList$ListItr" (49 : Nat) "java/util/LinkedList$Node" "next" "Ljava/util/LinkedList$Node;") ∈ lw_all := lw_g (lw_at lw_m3 102 rfl) rfl
theorem q740 : (Jvm.Cond.instanceMethod ({ cls := "java/util/LinkedList$ListItr", name := "hasNext", desc := "()Z" } : Jvm.MethodName)) ∈ lw_all := lw_g (lw_at lw_m3 192 rfl) rfl
theorem q742 : (Jvm.Cond.code ({ cls := "java/util/LinkedList$ListItr", name := "hasNext", desc := "()Z" } : Jvm.MethodName) prog_53_method_2_code (1 : Nat) (Option.some Jvm.ClassFile.FieldType.boolean)) ∈ lw_all := lw_g (lw_at lw_m3 194 rfl) rfl
theorem q1007 : (Jvm.Cond.methodLink "java/util/LinkedList$ListItr" (36 : Nat) ({ cls := "java/util/LinkedList$ListItr", name := "checkForComodification", desc := "()V" } : Jvm.MethodName)) ∈ lw_all := lw_g (lw_at lw_m4 219 rfl) rfl
theorem q1008 : (Jvm.Cond.instanceMethod ({ cls := "java/util/LinkedList$ListItr", name := "checkForComodification", desc := "()V" } : Jvm.MethodName)) ∈ lw_all := lw_g (lw_at lw_m4 220 rfl) rfl
theorem q1009 : (Jvm.Cond.selects "java/util/LinkedList$ListItr" ({ cls := "java/util/LinkedList$ListItr", name := "checkForComodification", desc := "()V" } : Jvm.MethodName) ({ cls := "java/util/LinkedList$ListItr", name := "checkForComodification", desc := "()V" } : Jvm.MethodName)) ∈ lw_all := lw_g (lw_at lw_m4 221 rfl) rfl
theorem q1010 : (Jvm.Cond.code ({ cls := "java/util/LinkedList$ListItr", name := "checkForComodification", desc := "()V" } : Jvm.MethodName) prog_53_method_12_code (1 : Nat) (Option.none : Option Jvm.ClassFile.FieldType)) ∈ lw_all := lw_g (lw_at lw_m4 222 rfl) rfl
theorem q1011 : (Jvm.Cond.methodLink "java/util/LinkedList$ListItr" (39 : Nat) ({ cls := "java/util/LinkedList$ListItr", name := "hasNext", desc := "()Z" } : Jvm.MethodName)) ∈ lw_all := lw_g (lw_at lw_m4 223 rfl) rfl
theorem q1028 : (Jvm.Cond.methodLink "java/util/AbstractSequentialList" (65 : Nat) ({ cls := "java/util/AbstractSequentialList", name := "listIterator", desc := "()Ljava/util/ListIterator;" } : Jvm.MethodName)) ∈ lw_all := lw_g (lw_at lw_m5 0 rfl) rfl
theorem q1029 : (Jvm.Cond.sameMethod "java/util/AbstractSequentialList" "java/util/AbstractList" "listIterator" "()Ljava/util/ListIterator;") ∈ lw_all := lw_g (lw_at lw_m5 1 rfl) rfl
theorem q1031 : (Jvm.Cond.selects "java/util/LinkedList" ({ cls := "java/util/AbstractSequentialList", name := "listIterator", desc := "()Ljava/util/ListIterator;" } : Jvm.MethodName) ({ cls := "java/util/AbstractList", name := "listIterator", desc := "()Ljava/util/ListIterator;" } : Jvm.MethodName)) ∈ lw_all := lw_g (lw_at lw_m5 3 rfl) rfl
theorem q1032 : (Jvm.Cond.instanceMethod ({ cls := "java/util/AbstractList", name := "listIterator", desc := "()Ljava/util/ListIterator;" } : Jvm.MethodName)) ∈ lw_all := lw_g (lw_at lw_m5 4 rfl) rfl
theorem q1033 : (Jvm.Cond.code ({ cls := "java/util/AbstractList", name := "listIterator", desc := "()Ljava/util/ListIterator;" } : Jvm.MethodName) prog_39_method_12_code (1 : Nat) (Option.some (Jvm.ClassFile.FieldType.object "java/util/ListIterator"))) ∈ lw_all := lw_g (lw_at lw_m5 5 rfl) rfl
theorem q1034 : (Jvm.Cond.methodLink "java/util/AbstractList" (47 : Nat) ({ cls := "java/util/AbstractList", name := "listIterator", desc := "(I)Ljava/util/ListIterator;" } : Jvm.MethodName)) ∈ lw_all := lw_g (lw_at lw_m5 6 rfl) rfl
theorem q1036 : (Jvm.Cond.sameMethod "java/util/AbstractList" "java/util/AbstractList" "listIterator" "(I)Ljava/util/ListIterator;") ∈ lw_all := lw_g (lw_at lw_m5 8 rfl) rfl
theorem q1058 : (Jvm.Cond.selects "java/util/LinkedList" ({ cls := "java/util/AbstractList", name := "listIterator", desc := "(I)Ljava/util/ListIterator;" } : Jvm.MethodName) ({ cls := "java/util/LinkedList", name := "listIterator", desc := "(I)Ljava/util/ListIterator;" } : Jvm.MethodName)) ∈ lw_all := lw_g (lw_at lw_m5 30 rfl) rfl
theorem q1059 : (Jvm.Cond.instanceMethod ({ cls := "java/util/LinkedList", name := "listIterator", desc := "(I)Ljava/util/ListIterator;" } : Jvm.MethodName)) ∈ lw_all := lw_g (lw_at lw_m5 31 rfl) rfl
theorem q1060 : (Jvm.Cond.code ({ cls := "java/util/LinkedList", name := "listIterator", desc := "(I)Ljava/util/ListIterator;" } : Jvm.MethodName) prog_52_method_49_code (2 : Nat) (Option.some (Jvm.ClassFile.FieldType.object "java/util/ListIterator"))) ∈ lw_all := lw_g (lw_at lw_m5 32 rfl) rfl
theorem q1061 : (Jvm.Cond.methodLink "java/util/LinkedList" (76 : Nat) ({ cls := "java/util/LinkedList", name := "checkPositionIndex", desc := "(I)V" } : Jvm.MethodName)) ∈ lw_all := lw_g (lw_at lw_m5 33 rfl) rfl
theorem q1063 : (Jvm.Cond.instanceMethod ({ cls := "java/util/LinkedList", name := "checkPositionIndex", desc := "(I)V" } : Jvm.MethodName)) ∈ lw_all := lw_g (lw_at lw_m5 35 rfl) rfl
theorem q1064 : (Jvm.Cond.code ({ cls := "java/util/LinkedList", name := "checkPositionIndex", desc := "(I)V" } : Jvm.MethodName) prog_52_method_30_code (2 : Nat) (Option.none : Option Jvm.ClassFile.FieldType)) ∈ lw_all := lw_g (lw_at lw_m5 36 rfl) rfl
theorem q1069 : (Jvm.Cond.classLink "java/util/LinkedList" (150 : Nat) "java/util/LinkedList$ListItr") ∈ lw_all := lw_g (lw_at lw_m5 41 rfl) rfl
theorem q1070 : (Jvm.Cond.instantiable "java/util/LinkedList$ListItr" (5 : Nat)) ∈ lw_all := lw_g (lw_at lw_m5 42 rfl) rfl
theorem q1071 : (Jvm.Cond.methodLink "java/util/LinkedList" (152 : Nat) ({ cls := "java/util/LinkedList$ListItr", name := "<init>", desc := "(Ljava/util/LinkedList;I)V" } : Jvm.MethodName)) ∈ lw_all := lw_g (lw_at lw_m5 43 rfl) rfl
theorem q1072 : (Jvm.Cond.instanceMethod ({ cls := "java/util/LinkedList$ListItr", name := "<init>", desc := "(Ljava/util/LinkedList;I)V" } : Jvm.MethodName)) ∈ lw_all := lw_g (lw_at lw_m5 44 rfl) rfl
theorem q1073 : (Jvm.Cond.code ({ cls := "java/util/LinkedList$ListItr", name := "<init>", desc := "(Ljava/util/LinkedList;I)V" } : Jvm.MethodName) prog_53_method_1_code (3 : Nat) (Option.none : Option Jvm.ClassFile.FieldType)) ∈ lw_all := lw_g (lw_at lw_m5 45 rfl) rfl
theorem q1074 : (Jvm.Cond.methodLink "java/util/LinkedList$ListItr" (7 : Nat) ({ cls := "java/lang/Object", name := "<init>", desc := "()V" } : Jvm.MethodName)) ∈ lw_all := lw_g (lw_at lw_m5 46 rfl) rfl
theorem q1075 : (Jvm.Cond.methodLink "java/util/LinkedList$ListItr" (25 : Nat) ({ cls := "java/util/LinkedList", name := "node", desc := "(I)Ljava/util/LinkedList$Node;" } : Jvm.MethodName)) ∈ lw_all := lw_g (lw_at lw_m5 47 rfl) rfl
theorem q1076 : (Jvm.Cond.fieldLink "java/util/LinkedList$ListItr" (46 : Nat) "java/util/LinkedList$ListItr" "lastReturned" "Ljava/util/LinkedList$Node;") ∈ lw_all := lw_g (lw_at lw_m5 48 rfl) rfl
theorem q1077 : (Jvm.Cond.fieldLink "java/util/LinkedList$ListItr" (29 : Nat) "java/util/LinkedList$ListItr" "next" "Ljava/util/LinkedList$Node;") ∈ lw_all := lw_g (lw_at lw_m5 49 rfl) rfl
theorem q1078 : (Jvm.Cond.fieldLink "java/util/LinkedList$ListItr" (33 : Nat) "java/util/LinkedList$ListItr" "nextIndex" "I") ∈ lw_all := lw_g (lw_at lw_m5 50 rfl) rfl
theorem q1079 : (Jvm.Cond.fieldLink "java/util/LinkedList$ListItr" (19 : Nat) "java/util/LinkedList$ListItr" "expectedModCount" "I") ∈ lw_all := lw_g (lw_at lw_m5 51 rfl) rfl
theorem q1080 : (Jvm.Cond.fieldLink "java/util/LinkedList$ListItr" (1 : Nat) "java/util/LinkedList$ListItr" "this$0" "Ljava/util/LinkedList;") ∈ lw_all := lw_g (lw_at lw_m5 52 rfl) rfl
theorem q1092 : (Jvm.Cond.declares ({ cls := "java/util/AbstractList", name := "listIterator", desc := "(I)Ljava/util/ListIterator;" } : Jvm.MethodName)) ∈ lw_tbl := lw_at lw_m5 64 rfl
theorem q2138 : (Jvm.Cond.selects "java/util/LinkedList$ListItr" ({ cls := "java/util/LinkedList$ListItr", name := "hasNext", desc := "()Z" } : Jvm.MethodName) ({ cls := "java/util/LinkedList$ListItr", name := "hasNext", desc := "()Z" } : Jvm.MethodName)) ∈ lw_all := lw_g (lw_at lw_m9 150 rfl) rfl
section
variable {l : Launch} {D : va_G} {cc : ByteArray} {nL : Nat} {rm : Room} {Γ : Cxt} {h : PH} {k n pc nx : Nat} {lv : List (Nat × Value)} {st : List Value}
theorem p_J26_1_14 (X : Cx l D cc RJ26 nL rm Γ) (hmn : Mn "<init>" Γ) {a : Nat} {fs fs2 : List Value} {v : Value} (d : At cc pc (.putfield 1) 3 nx) (ha : h a = some (eo 14 fs)) (hn : narrow (.object "java/util/LinkedList") v = v) (hfit : fits (.object "java/util/LinkedList") v = true) (hl2 : Nat.ble (4 + 1) fs.length = true) (hfs : fs.set 4 v = fs2) (kk : J Γ (pu h a (eo 14 fs2)) k n nx lv st) : J Γ h k n pc lv (v :: .ref a :: st) := J_putF X hmn (kf := 4) (tf := tyJ26) d ha (show vwCl[14]? = some (RJ26, TJ26, 5) from rfl) in_J26 tyJ26_ok nmJ26 rfl q1080 rfl rfl rfl rfl hn hfit hl2 hfs kk
theorem g_J26_1_14 (X : Cx l D cc RJ26 nL rm Γ) {a : Nat} {fs : List Value} {v : Value} (d : At cc pc (.getfield 1) 3 nx) (ha : h a = some (eo 14 fs)) (hv : fs[4]? = some v) (kk : J Γ h k n nx lv (v :: st)) : J Γ h k n pc lv (.ref a :: st) := J_get X (kf := 4) d ha (show vwCl[14]? = some (RJ26, TJ26, 5) from rfl) in_J26 rfl q1080 rfl hv kk
theorem g_J26_13_3 (X : Cx l D cc RJ26 nL rm Γ) {a : Nat} {fs : List Value} {v : Value} (d : At cc pc (.getfield 13) 3 nx) (ha : h a = some (eo 3 fs)) (hv : fs[0]? = some v) (kk : J Γ h k n nx lv (v :: st)) : J Γ h k n pc lv (.ref a :: st) := J_getS X (kf := 0) d ha (show vwCl[3]? = some (RJ4, TJ4, 4) from rfl) in_J4 rfl q147 q148 hv kk
theorem p_J26_19_14 (X : Cx l D cc RJ26 nL rm Γ) {a : Nat} {fs fs2 : List Value} {v : Value} (d : At cc pc (.putfield 19) 3 nx) (ha : h a = some (eo 14 fs)) (hn : narrow (.int) v = v) (hfit : fits (.int) v = true) (hl2 : Nat.ble (3 + 1) fs.length = true) (hfs : fs.set 3 v = fs2) (kk : J Γ (pu h a (eo 14 fs2)) k n nx lv st) : J Γ h k n pc lv (v :: .ref a :: st) := J_put X (kf := 3) (tf := tyJ26) d ha (show vwCl[14]? = some (RJ26, TJ26, 5) from rfl) in_J26 tyJ26_ok nmJ26 rfl q1079 rfl rfl rfl hn hfit hl2 hfs kk
theorem g_J26_22_3 (X : Cx l D cc RJ26 nL rm Γ) {a : Nat} {fs : List Value} {v : Value} (d : At cc pc (.getfield 22) 3 nx) (ha : h a = some (eo 3 fs)) (hv : fs[1]? = some v) (kk : J Γ h k n nx lv (v :: st)) : J Γ h k n pc lv (.ref a :: st) := J_get X (kf := 1) d ha (show vwCl[3]? = some (RJ4, TJ4, 4) from rfl) in_J4 rfl q171 rfl hv kk
theorem p_J26_29_14 (X : Cx l D cc RJ26 nL rm Γ) {a : Nat} {fs fs2 : List Value} {v : Value} (d : At cc pc (.putfield 29) 3 nx) (ha : h a = some (eo 14 fs)) (hn : narrow (.object "java/util/LinkedList$Node") v = v) (hfit : fits (.object "java/util/LinkedList$Node") v = true) (hl2 : Nat.ble (1 + 1) fs.length = true) (hfs : fs.set 1 v = fs2) (kk : J Γ (pu h a (eo 14 fs2)) k n nx lv st) : J Γ h k n pc lv (v :: .ref a :: st) := J_put X (kf := 1) (tf := tyJ26) d ha (show vwCl[14]? = some (RJ26, TJ26, 5) from rfl) in_J26 tyJ26_ok nmJ26 rfl q1077 rfl rfl rfl hn hfit hl2 hfs kk
theorem p_J26_33_14 (X : Cx l D cc RJ26 nL rm Γ) {a : Nat} {fs fs2 : List Value} {v : Value} (d : At cc pc (.putfield 33) 3 nx) (ha : h a = some (eo 14 fs)) (hn : narrow (.int) v = v) (hfit : fits (.int) v = true) (hl2 : Nat.ble (2 + 1) fs.length = true) (hfs : fs.set 2 v = fs2) (kk : J Γ (pu h a (eo 14 fs2)) k n nx lv st) : J Γ h k n pc lv (v :: .ref a :: st) := J_put X (kf := 2) (tf := tyJ26) d ha (show vwCl[14]? = some (RJ26, TJ26, 5) from rfl) in_J26 tyJ26_ok nmJ26 rfl q1078 rfl rfl rfl hn hfit hl2 hfs kk
theorem n_J4_150 (X : Cx l D cc RJ4 nL rm Γ) (d : At cc pc (.new 150) 3 nx) (hk : k + 1 ≤ rm.cells) (hn : n + 5 ≤ rm.slots) (kk : ∀ q, h q = none → J Γ (pu h q (eo 14 [.null, .null, .int (nI 0), .int (nI 0), .null])) (k + 1) (n + 5) nx lv (.ref q :: st)) : J Γ h k n pc lv st := J_new X (tf := tyJ26) d (show vwCl[14]? = some (RJ26, TJ26, 5) from rfl) in_J26 tyJ26_ok q1069 q1070 q104 (by decide) hk hn kk
theorem g_J26_33_14 (X : Cx l D cc RJ26 nL rm Γ) {a : Nat} {fs : List Value} {v : Value} (d : At cc pc (.getfield 33) 3 nx) (ha : h a = some (eo 14 fs)) (hv : fs[2]? = some v) (kk : J Γ h k n nx lv (v :: st)) : J Γ h k n pc lv (.ref a :: st) := J_get X (kf := 2) d ha (show vwCl[14]? = some (RJ26, TJ26, 5) from rfl) in_J26 rfl q1078 rfl hv kk
theorem g_J26_19_14 (X : Cx l D cc RJ26 nL rm Γ) {a : Nat} {fs : List Value} {v : Value} (d : At cc pc (.getfield 19) 3 nx) (ha : h a = some (eo 14 fs)) (hv : fs[3]? = some v) (kk : J Γ h k n nx lv (v :: st)) : J Γ h k n pc lv (.ref a :: st) := J_get X (kf := 3) d ha (show vwCl[14]? = some (RJ26, TJ26, 5) from rfl) in_J26 rfl q1079 rfl hv kk
theorem g_J26_29_14 (X : Cx l D cc RJ26 nL rm Γ) {a : Nat} {fs : List Value} {v : Value} (d : At cc pc (.getfield 29) 3 nx) (ha : h a = some (eo 14 fs)) (hv : fs[1]? = some v) (kk : J Γ h k n nx lv (v :: st)) : J Γ h k n pc lv (.ref a :: st) := J_get X (kf := 1) d ha (show vwCl[14]? = some (RJ26, TJ26, 5) from rfl) in_J26 rfl q1077 rfl hv kk
theorem p_J26_46_14 (X : Cx l D cc RJ26 nL rm Γ) {a : Nat} {fs fs2 : List Value} {v : Value} (d : At cc pc (.putfield 46) 3 nx) (ha : h a = some (eo 14 fs)) (hn : narrow (.object "java/util/LinkedList$Node") v = v) (hfit : fits (.object "java/util/LinkedList$Node") v = true) (hl2 : Nat.ble (0 + 1) fs.length = true) (hfs : fs.set 0 v = fs2) (kk : J Γ (pu h a (eo 14 fs2)) k n nx lv st) : J Γ h k n pc lv (v :: .ref a :: st) := J_put X (kf := 0) (tf := tyJ26) d ha (show vwCl[14]? = some (RJ26, TJ26, 5) from rfl) in_J26 tyJ26_ok nmJ26 rfl q1076 rfl rfl rfl hn hfit hl2 hfs kk
theorem g_J26_49_12 (X : Cx l D cc RJ26 nL rm Γ) {a : Nat} {fs : List Value} {v : Value} (d : At cc pc (.getfield 49) 3 nx) (ha : h a = some (eo 12 fs)) (hv : fs[1]? = some v) (kk : J Γ h k n nx lv (v :: st)) : J Γ h k n pc lv (.ref a :: st) := J_get X (kf := 1) d ha (show vwCl[12]? = some (RJ20, TJ20, 3) from rfl) in_J20 rfl q650 rfl hv kk
theorem g_J26_46_14 (X : Cx l D cc RJ26 nL rm Γ) {a : Nat} {fs : List Value} {v : Value} (d : At cc pc (.getfield 46) 3 nx) (ha : h a = some (eo 14 fs)) (hv : fs[0]? = some v) (kk : J Γ h k n nx lv (v :: st)) : J Γ h k n pc lv (.ref a :: st) := J_get X (kf := 0) d ha (show vwCl[14]? = some (RJ26, TJ26, 5) from rfl) in_J26 rfl q1076 rfl hv kk
theorem g_J26_52_12 (X : Cx l D cc RJ26 nL rm Γ) {a : Nat} {fs : List Value} {v : Value} (d : At cc pc (.getfield 52) 3 nx) (ha : h a = some (eo 12 fs)) (hv : fs[0]? = some v) (kk : J Γ h k n nx lv (v :: st)) : J Γ h k n pc lv (.ref a :: st) := J_get X (kf := 0) d ha (show vwCl[12]? = some (RJ20, TJ20, 3) from rfl) in_J20 rfl q647 rfl hv kk
end
/-- where an iterator of a list is -/
def licur (n : Nat) (nd : Nat → Nat) (i : Nat) : Option Nat := if i < n then some (nd i) else none
theorem licur_0 {n : Nat} {nd : Nat → Nat} : licur n nd 0 = lfst n nd := by
  unfold licur lfst
  by_cases h : n = 0
  · rw [if_pos h, if_neg (by omega)]
  · rw [if_neg h, if_pos (by omega)]
abbrev cJ26_init : ByteArray := prog_53_method_1_code
def yJ26_init : MethodName := ⟨RJ26, "<init>", "(Ljava/util/LinkedList;I)V"⟩
theorem tJ26_init : dtab cJ26_init [(0, .aload_n 0, 1, 1), (1, .aload_n 1, 1, 2), (2, .putfield 1, 3, 5), (5, .aload_n 0, 1, 6), (6, .invokespecial 7, 3, 9), (9, .aload_n 0, 1, 10), (10, .aload_n 0, 1, 11), (11, .getfield 1, 3, 14), (14, .getfield 13, 3, 17), (17, .putfield 19, 3, 20), (20, .aload_n 0, 1, 21), (21, .iload_n 2, 1, 22), (22, .aload_n 1, 1, 23), (23, .getfield 22, 3, 26), (26, .if_icmp .ne 7, 3, 29), (29, .aconst_null, 1, 30), (30, .goto 8, 3, 33), (33, .aload_n 1, 1, 34), (34, .iload_n 2, 1, 35), (35, .invokevirtual 25, 3, 38), (38, .putfield 29, 3, 41), (41, .aload_n 0, 1, 42), (42, .iload_n 2, 1, 43), (43, .putfield 33, 3, 46), (46, .return_, 1, 47)] := by unfold dtab; decide +kernel
theorem okJ26_init : okY yJ26_init 2 := by decide +kernel
set_option maxHeartbeats 4000000 in
theorem c_LIinit (l : Launch) (D : va_G) (h : PH) {a n b : Nat} {md : Int32} {nd it : Nat → Nat} (hb : h b = some (eo 14 [.null, .null, .int (nI 0), .int (nI 0), .null])) (hl : LLf h a md n nd it) (hn : n < 130) : Ct l D yJ26_init cJ26_init 3 none (rmC 1 23 0 0) [.ref b, .ref a, .int (nI 0)] h (PS (pu h b (eo 14 [.null, va_rf (licur n nd 0), .int (nI 0), .int md, .ref a])) none) := by
  refine Ct.of (by decide) rfl (fun Γ X rr hmn => ?_)
  have X : Cx l D cJ26_init RJ26 3 (rmC 1 23 0 0) Γ := X
  show J Γ h 0 0 0 [(0, .ref b), (1, .ref a), (2, .int (nI 0))] []
  by_cases hz : n = 0
  · refine J_aload_n X (dt tJ26_init 0 rfl) 0 rfl ?_
    refine J_aload_n X (dt tJ26_init 1 rfl) 1 rfl ?_
    refine p_J26_1_14 X hmn (fs2 := [.null, .null, .int (nI 0), .int (nI 0), .ref a]) (dt tJ26_init 2 rfl) hb rfl rfl rfl rfl ?_
    refine J_aload_n X (dt tJ26_init 3 rfl) 0 rfl ?_
    refine J_objI X (dt tJ26_init 4 rfl) q1074 q118 q119 (Nat.le_of_ble_eq_true rfl) (Nat.le_of_ble_eq_true rfl) ?_
    refine J_aload_n X (dt tJ26_init 5 rfl) 0 rfl ?_
    refine J_aload_n X (dt tJ26_init 6 rfl) 0 rfl ?_
    refine g_J26_1_14 X (dt tJ26_init 7 rfl) (pu_s _ _ _) rfl ?_
    refine g_J26_13_3 X (dt tJ26_init 8 rfl) (pu_o (ne_c hl.1 hb (by decide)) hl.1) rfl ?_
    refine p_J26_19_14 X (fs2 := [.null, .null, .int (nI 0), .int md, .ref a]) (dt tJ26_init 9 rfl) (pu_s _ _ _) rfl rfl rfl rfl ?_
    refine J_heap (h2 := pu h b (eo 14 [.null, .null, .int (nI 0), .int md, .ref a])) (pu_pu _ _ _ _) ?_
    refine J_aload_n X (dt tJ26_init 10 rfl) 0 rfl ?_
    refine J_iload_n X (dt tJ26_init 11 rfl) 2 rfl ?_
    refine J_aload_n X (dt tJ26_init 12 rfl) 1 rfl ?_
    refine g_J26_22_3 X (dt tJ26_init 13 rfl) (pu_o (ne_c hl.1 hb (by decide)) hl.1) rfl ?_
    refine J_icmp_ne X 33 (dt tJ26_init 14 rfl) (by decide) (fun c9 => absurd (by rw [hz]) c9) (fun _ => ?_)
    refine J_null X (dt tJ26_init 15 rfl) ?_
    refine J_goto X (tgt := 38) (dt tJ26_init 16 rfl) (by decide) ?_
    refine p_J26_29_14 X (fs2 := [.null, .null, .int (nI 0), .int md, .ref a]) (dt tJ26_init 20 rfl) (pu_s _ _ _) rfl rfl rfl rfl ?_
    refine J_heap (h2 := pu h b (eo 14 [.null, .null, .int (nI 0), .int md, .ref a])) (pu_pu _ _ _ _) ?_
    refine J_aload_n X (dt tJ26_init 21 rfl) 0 rfl ?_
    refine J_iload_n X (dt tJ26_init 22 rfl) 2 rfl ?_
    refine p_J26_33_14 X (fs2 := [.null, .null, .int (nI 0), .int md, .ref a]) (dt tJ26_init 23 rfl) (pu_s _ _ _) rfl rfl rfl rfl ?_
    refine J_heap (h2 := pu h b (eo 14 [.null, .null, .int (nI 0), .int md, .ref a])) (pu_pu _ _ _ _) ?_
    exact J_vret X rr (dt tJ26_init 24 rfl) (Nat.le_of_ble_eq_true rfl) (Nat.le_of_ble_eq_true rfl) ⟨rfl, by rw [licur_0, show lfst n nd = none from if_pos hz]; rfl⟩
  · refine J_aload_n X (dt tJ26_init 0 rfl) 0 rfl ?_
    refine J_aload_n X (dt tJ26_init 1 rfl) 1 rfl ?_
    refine p_J26_1_14 X hmn (fs2 := [.null, .null, .int (nI 0), .int (nI 0), .ref a]) (dt tJ26_init 2 rfl) hb rfl rfl rfl rfl ?_
    refine J_aload_n X (dt tJ26_init 3 rfl) 0 rfl ?_
    refine J_objI X (dt tJ26_init 4 rfl) q1074 q118 q119 (Nat.le_of_ble_eq_true rfl) (Nat.le_of_ble_eq_true rfl) ?_
    refine J_aload_n X (dt tJ26_init 5 rfl) 0 rfl ?_
    refine J_aload_n X (dt tJ26_init 6 rfl) 0 rfl ?_
    refine g_J26_1_14 X (dt tJ26_init 7 rfl) (pu_s _ _ _) rfl ?_
    refine g_J26_13_3 X (dt tJ26_init 8 rfl) (pu_o (ne_c hl.1 hb (by decide)) hl.1) rfl ?_
    refine p_J26_19_14 X (fs2 := [.null, .null, .int (nI 0), .int md, .ref a]) (dt tJ26_init 9 rfl) (pu_s _ _ _) rfl rfl rfl rfl ?_
    refine J_heap (h2 := pu h b (eo 14 [.null, .null, .int (nI 0), .int md, .ref a])) (pu_pu _ _ _ _) ?_
    refine J_aload_n X (dt tJ26_init 10 rfl) 0 rfl ?_
    refine J_iload_n X (dt tJ26_init 11 rfl) 2 rfl ?_
    refine J_aload_n X (dt tJ26_init 12 rfl) 1 rfl ?_
    refine g_J26_22_3 X (dt tJ26_init 13 rfl) (pu_o (ne_c hl.1 hb (by decide)) hl.1) rfl ?_
    refine J_icmp_ne X 33 (dt tJ26_init 14 rfl) (by decide) (fun _ => ?_) (fun c9 => absurd c9 (fun z => hz ((nI_eq (by omega) (by omega)).mp z.symm)))
    refine J_aload_n X (dt tJ26_init 17 rfl) 1 rfl ?_
    refine J_iload_n X (dt tJ26_init 18 rfl) 2 rfl ?_
    refine J_callVR (rest := [.ref b]) X (T := TJ4) (dt tJ26_init 19 rfl) (c_LLnode l D _ (i := 0) (LLf.pu hl (hl.nofk hb rfl rfl)) (by omega) (by omega)) (lw_V q1075 q773 q774 q75 q775) okJ4_node rfl (Or.inl (pu_o (ne_c hl.1 hb (by decide)) hl.1)) rfl ⟨Nat.le_of_ble_eq_true rfl, Nat.le_of_ble_eq_true rfl⟩ rfl (Nat.le_of_ble_eq_true rfl) (Nat.le_of_ble_eq_true rfl) (Nat.le_of_ble_eq_true rfl) (fun v9 h9 hp9 => ?_)
    obtain ⟨rfl, e9⟩ := hp9
    rw [e9]
    show J Γ (pu h b (eo 14 [.null, .null, .int (nI 0), .int md, .ref a])) 0 0 38 [(0, .ref b), (1, .ref a), (2, .int (nI 0))] [.ref (nd 0), .ref b]
    refine p_J26_29_14 X (fs2 := [.null, .ref (nd 0), .int (nI 0), .int md, .ref a]) (dt tJ26_init 20 rfl) (pu_s _ _ _) rfl rfl rfl rfl ?_
    refine J_heap (h2 := pu h b (eo 14 [.null, .ref (nd 0), .int (nI 0), .int md, .ref a])) (pu_pu _ _ _ _) ?_
    refine J_aload_n X (dt tJ26_init 21 rfl) 0 rfl ?_
    refine J_iload_n X (dt tJ26_init 22 rfl) 2 rfl ?_
    refine p_J26_33_14 X (fs2 := [.null, .ref (nd 0), .int (nI 0), .int md, .ref a]) (dt tJ26_init 23 rfl) (pu_s _ _ _) rfl rfl rfl rfl ?_
    refine J_heap (h2 := pu h b (eo 14 [.null, .ref (nd 0), .int (nI 0), .int md, .ref a])) (pu_pu _ _ _ _) ?_
    exact J_vret X rr (dt tJ26_init 24 rfl) (Nat.le_of_ble_eq_true rfl) (Nat.le_of_ble_eq_true rfl) ⟨rfl, by rw [licur_0, show lfst n nd = some (nd 0) from if_neg hz]; rfl⟩
abbrev cJ4_listIterator : ByteArray := prog_52_method_49_code
def yJ4_listIterator : MethodName := ⟨RJ4, "listIterator", "(I)Ljava/util/ListIterator;"⟩
theorem tJ4_listIterator : dtab cJ4_listIterator [(0, .aload_n 0, 1, 1), (1, .iload_n 1, 1, 2), (2, .invokevirtual 76, 3, 5), (5, .new 150, 3, 8), (8, .dup, 1, 9), (9, .aload_n 0, 1, 10), (10, .iload_n 1, 1, 11), (11, .invokespecial 152, 3, 14), (14, .areturn, 1, 15)] := by unfold dtab; decide +kernel
theorem okJ4_listIterator : okY yJ4_listIterator 1 := by decide +kernel
set_option maxHeartbeats 4000000 in
theorem c_LIlist (l : Launch) (D : va_G) (h : PH) {a n : Nat} {md : Int32} {nd it : Nat → Nat}  (hl : LLf h a md n nd it) (hn : n < 130) : Ct l D yJ4_listIterator cJ4_listIterator 2 (some (.object "java/util/ListIterator")) (rmC 2 45 1 5) [.ref a, .int (nI 0)] h (fun v h2 => ∃ q, h q = none ∧ v = some (.ref q) ∧ h2 = pu h q (eo 14 [.null, va_rf (licur n nd 0), .int (nI 0), .int md, .ref a])) := by
  refine Ct.of (by decide) rfl (fun Γ X rr hmn => ?_)
  have X : Cx l D cJ4_listIterator RJ4 2 (rmC 2 45 1 5) Γ := X
  show J Γ h 0 0 0 [(0, .ref a), (1, .int (nI 0))] []
  refine J_aload_n X (dt tJ4_listIterator 0 rfl) 0 rfl ?_
  refine J_iload_n X (dt tJ4_listIterator 1 rfl) 1 rfl ?_
  refine J_callVR (rest := []) X (T := TJ4) (dt tJ4_listIterator 2 rfl) (c_LLcp l D _ (i := 0) (f := lfst n nd) (z := llst n nd) hl.1 (by omega) (by omega)) (lw_V q1061 q1063 qs15 q75 q1064) okJ4_checkPositionIndex rfl (Or.inl hl.1) rfl ⟨Nat.le_of_ble_eq_true rfl, Nat.le_of_ble_eq_true rfl⟩ rfl (Nat.le_of_ble_eq_true rfl) (Nat.le_of_ble_eq_true rfl) (Nat.le_of_ble_eq_true rfl) (fun v9 h9 hp9 => ?_)
  obtain ⟨rfl, e9⟩ := hp9
  rw [e9]
  show J Γ h 0 0 5 [(0, .ref a), (1, .int (nI 0))] []
  refine n_J4_150 X (dt tJ4_listIterator 3 rfl) (Nat.le_of_ble_eq_true rfl) (Nat.le_of_ble_eq_true rfl) (fun q1 fq1 => ?_)
  refine J_dup X (dt tJ4_listIterator 4 rfl) rfl ?_
  refine J_aload_n X (dt tJ4_listIterator 5 rfl) 0 rfl ?_
  refine J_iload_n X (dt tJ4_listIterator 6 rfl) 1 rfl ?_
  refine J_callI (rest := [.ref q1]) X (dt tJ4_listIterator 7 rfl) (c_LIinit l D _ (pu_s _ _ _) (LLf.pu hl (hl.nofp fq1)) (by omega)) (lw_meth q1073) q104 q1071 q1072 rfl okJ26_init rfl ⟨Nat.le_of_ble_eq_true rfl, Nat.le_of_ble_eq_true rfl⟩ rfl (Nat.le_of_ble_eq_true rfl) (Nat.le_of_ble_eq_true rfl) (Nat.le_of_ble_eq_true rfl) (fun v9 h9 hp9 => ?_)
  obtain ⟨rfl, e9⟩ := hp9
  rw [e9]
  refine J_heap (h2 := pu h q1 (eo 14 [.null, va_rf (licur n nd 0), .int (nI 0), .int md, .ref a])) (pu_pu _ _ _ _) ?_
  show J Γ (pu h q1 (eo 14 [.null, va_rf (licur n nd 0), .int (nI 0), .int md, .ref a])) 1 5 14 [(0, .ref a), (1, .int (nI 0))] [.ref q1]
  exact J_aret X rr (dt tJ4_listIterator 8 rfl) (Nat.le_of_ble_eq_true rfl) (Nat.le_of_ble_eq_true rfl) (Or.inl ⟨_, rfl⟩) (Or.inr ⟨_, rfl⟩) ⟨_, fq1, rfl, rfl⟩
abbrev cJ1_listIterator : ByteArray := prog_39_method_12_code
def yJ1_listIterator : MethodName := ⟨RJ1, "listIterator", "()Ljava/util/ListIterator;"⟩
theorem tJ1_listIterator : dtab cJ1_listIterator [(0, .aload_n 0, 1, 1), (1, .iconst 0, 1, 2), (2, .invokevirtual 47, 3, 5), (5, .areturn, 1, 6)] := by unfold dtab; decide +kernel
theorem okJ1_listIterator : okY yJ1_listIterator 0 := by decide +kernel
set_option maxHeartbeats 4000000 in
theorem c_LIlist1 (l : Launch) (D : va_G) (h : PH) {a n : Nat} {md : Int32} {nd it : Nat → Nat}  (hl : LLf h a md n nd it) (hn : n < 130) : Ct l D yJ1_listIterator cJ1_listIterator 1 (some (.object "java/util/ListIterator")) (rmC 3 66 1 5) [.ref a] h (fun v h2 => ∃ q, h q = none ∧ v = some (.ref q) ∧ h2 = pu h q (eo 14 [.null, va_rf (licur n nd 0), .int (nI 0), .int md, .ref a])) := by
  refine Ct.of (by decide) rfl (fun Γ X rr hmn => ?_)
  have X : Cx l D cJ1_listIterator RJ1 1 (rmC 3 66 1 5) Γ := X
  show J Γ h 0 0 0 [(0, .ref a)] []
  refine J_aload_n X (dt tJ1_listIterator 0 rfl) 0 rfl ?_
  refine J_iconst X (nI 0) (dt tJ1_listIterator 1 rfl) (by decide) ?_
  refine J_callA (na := 1) (rest := []) X (T := TJ4) (C := RJ4) (x := ⟨"java/util/AbstractList", "listIterator", "(I)Ljava/util/ListIterator;"⟩) (owner := "java/util/AbstractList") (dt tJ1_listIterator 2 rfl) (c_LIlist l D _ hl (by omega)) (lw_U q1034 q1036 q1058 q1059 q75 q1060) q1092 (by decide) rfl (Or.inl hl.1) rfl ⟨Nat.le_of_ble_eq_true rfl, Nat.le_of_ble_eq_true rfl⟩ rfl (Nat.le_of_ble_eq_true rfl) (Nat.le_of_ble_eq_true rfl) (Nat.le_of_ble_eq_true rfl) (fun v9 h9 hp9 => ?_)
  obtain ⟨q1, fq1, rfl, rfl⟩ := hp9
  show J Γ (pu h q1 (eo 14 [.null, va_rf (licur n nd 0), .int (nI 0), .int md, .ref a])) 1 5 5 [(0, .ref a)] [.ref q1]
  exact J_aret X rr (dt tJ1_listIterator 3 rfl) (Nat.le_of_ble_eq_true rfl) (Nat.le_of_ble_eq_true rfl) (Or.inl ⟨_, rfl⟩) (Or.inr ⟨_, rfl⟩) ⟨_, fq1, rfl, rfl⟩
abbrev cJ3_iterator : ByteArray := prog_42_method_7_code
def yJ3_iterator : MethodName := ⟨RJ3, "iterator", "()Ljava/util/Iterator;"⟩
theorem tJ3_iterator : dtab cJ3_iterator [(0, .aload_n 0, 1, 1), (1, .invokevirtual 65, 3, 4), (4, .areturn, 1, 5)] := by unfold dtab; decide +kernel
theorem okJ3_iterator : okY yJ3_iterator 0 := by decide +kernel
set_option maxHeartbeats 4000000 in
theorem c_LIiter (l : Launch) (D : va_G) (h : PH) {a n : Nat} {md : Int32} {nd it : Nat → Nat}  (hl : LLf h a md n nd it) (hn : n < 130) : Ct l D yJ3_iterator cJ3_iterator 1 (some (.object "java/util/Iterator")) (rmC 4 86 1 5) [.ref a] h (fun v h2 => ∃ q, h q = none ∧ v = some (.ref q) ∧ h2 = pu h q (eo 14 [.null, va_rf (licur n nd 0), .int (nI 0), .int md, .ref a])) := by
  refine Ct.of (by decide) rfl (fun Γ X rr hmn => ?_)
  have X : Cx l D cJ3_iterator RJ3 1 (rmC 4 86 1 5) Γ := X
  show J Γ h 0 0 0 [(0, .ref a)] []
  refine J_aload_n X (dt tJ3_iterator 0 rfl) 0 rfl ?_
  refine J_callU (na := 0) (rest := []) X (T := TJ4) (C := RJ4) (x := ⟨"java/util/AbstractSequentialList", "listIterator", "()Ljava/util/ListIterator;"⟩) (owner := "java/util/AbstractList") (dt tJ3_iterator 1 rfl) (c_LIlist1 l D _ hl (by omega)) (lw_U q1028 q1029 q1031 q1032 q72 q1033) rfl (by decide) rfl (Or.inl hl.1) rfl ⟨Nat.le_of_ble_eq_true rfl, Nat.le_of_ble_eq_true rfl⟩ rfl (Nat.le_of_ble_eq_true rfl) (Nat.le_of_ble_eq_true rfl) (Nat.le_of_ble_eq_true rfl) (fun v9 h9 hp9 => ?_)
  obtain ⟨q1, fq1, rfl, rfl⟩ := hp9
  show J Γ (pu h q1 (eo 14 [.null, va_rf (licur n nd 0), .int (nI 0), .int md, .ref a])) 1 5 4 [(0, .ref a)] [.ref q1]
  exact J_aret X rr (dt tJ3_iterator 2 rfl) (Nat.le_of_ble_eq_true rfl) (Nat.le_of_ble_eq_true rfl) (Or.inl ⟨_, rfl⟩) (Or.inr ⟨_, rfl⟩) ⟨_, fq1, rfl, rfl⟩
abbrev cJ26_hasNext : ByteArray := prog_53_method_2_code
def yJ26_hasNext : MethodName := ⟨RJ26, "hasNext", "()Z"⟩
theorem tJ26_hasNext : dtab cJ26_hasNext [(0, .aload_n 0, 1, 1), (1, .getfield 33, 3, 4), (4, .aload_n 0, 1, 5), (5, .getfield 1, 3, 8), (8, .getfield 22, 3, 11), (11, .if_icmp .ge 7, 3, 14), (14, .iconst 1, 1, 15), (15, .goto 4, 3, 18), (18, .iconst 0, 1, 19), (19, .ireturn, 1, 20)] := by unfold dtab; decide +kernel
theorem okJ26_hasNext : okY yJ26_hasNext 0 := by decide +kernel
set_option maxHeartbeats 4000000 in
theorem c_LIhas (l : Launch) (D : va_G) (h : PH) {a n b i : Nat} {md : Int32} {nd it : Nat → Nat} {lr cu : Option Nat}  (hl : LLf h a md n nd it) (hn : n < 130) (hb : h b = some (eo 14 [va_rf lr, va_rf cu, .int (nI i), .int md, .ref a])) : Ct l D yJ26_hasNext cJ26_hasNext 1 (some .boolean) (rmC 0 0 0 0) [.ref b] h (PS h (some (.int (if nI n ≤ nI i then nI 0 else nI 1)))) := by
  refine Ct.of (by decide) rfl (fun Γ X rr hmn => ?_)
  have X : Cx l D cJ26_hasNext RJ26 1 (rmC 0 0 0 0) Γ := X
  show J Γ h 0 0 0 [(0, .ref b)] []
  refine J_aload_n X (dt tJ26_hasNext 0 rfl) 0 rfl ?_
  refine g_J26_33_14 X (dt tJ26_hasNext 1 rfl) hb rfl ?_
  refine J_aload_n X (dt tJ26_hasNext 2 rfl) 0 rfl ?_
  refine g_J26_1_14 X (dt tJ26_hasNext 3 rfl) hb rfl ?_
  refine g_J26_22_3 X (dt tJ26_hasNext 4 rfl) hl.1 rfl ?_
  have kj3 : ∀ v2 : Int32, v2 = (if (nI n) ≤ (nI i) then nI 0 else nI 1) → J Γ h 0 0 19 [(0, .ref b)] [.int v2] := by
    intro v2 ev2
    exact J_zret X rr (dt tJ26_hasNext 9 rfl) (Nat.le_of_ble_eq_true rfl) (Nat.le_of_ble_eq_true rfl) (isB.nar (by rw [ev2]; exact isB_ite isB_0 isB_1)) ⟨congrArg (fun z => some (Value.int z)) ev2, rfl⟩
  refine J_icmp_ge X 18 (dt tJ26_hasNext 5 rfl) (by decide) (fun c1 => ?_) (fun c1 => ?_)
  · refine J_iconst X (nI 0) (dt tJ26_hasNext 8 rfl) (by decide) ?_
    exact kj3 _ (if_pos c1).symm
  · refine J_iconst X (nI 1) (dt tJ26_hasNext 6 rfl) (by decide) ?_
    refine J_goto X (tgt := 19) (dt tJ26_hasNext 7 rfl) (by decide) ?_
    exact kj3 _ (if_neg c1).symm
abbrev cJ26_checkForComodification : ByteArray := prog_53_method_12_code
def yJ26_checkForComodification : MethodName := ⟨RJ26, "checkForComodification", "()V"⟩
theorem tJ26_checkForComodification : dtab cJ26_checkForComodification [(0, .aload_n 0, 1, 1), (1, .getfield 1, 3, 4), (4, .getfield 13, 3, 7), (7, .aload_n 0, 1, 8), (8, .getfield 19, 3, 11), (11, .if_icmp .eq 11, 3, 14), (14, .new 91, 3, 17), (17, .dup, 1, 18), (18, .invokespecial 93, 3, 21), (21, .athrow, 1, 22), (22, .return_, 1, 23)] := by unfold dtab; decide +kernel
theorem okJ26_checkForComodification : okY yJ26_checkForComodification 0 := by decide +kernel
set_option maxHeartbeats 4000000 in
theorem c_LIchk (l : Launch) (D : va_G) (h : PH) {a n b i : Nat} {md : Int32} {nd it : Nat → Nat} {lr cu : Option Nat}  (hl : LLf h a md n nd it) (hn : n < 130) (hb : h b = some (eo 14 [va_rf lr, va_rf cu, .int (nI i), .int md, .ref a])) : Ct l D yJ26_checkForComodification cJ26_checkForComodification 1 none (rmC 0 0 0 0) [.ref b] h (PS h none) := by
  refine Ct.of (by decide) rfl (fun Γ X rr hmn => ?_)
  have X : Cx l D cJ26_checkForComodification RJ26 1 (rmC 0 0 0 0) Γ := X
  show J Γ h 0 0 0 [(0, .ref b)] []
  refine J_aload_n X (dt tJ26_checkForComodification 0 rfl) 0 rfl ?_
  refine g_J26_1_14 X (dt tJ26_checkForComodification 1 rfl) hb rfl ?_
  refine g_J26_13_3 X (dt tJ26_checkForComodification 2 rfl) hl.1 rfl ?_
  refine J_aload_n X (dt tJ26_checkForComodification 3 rfl) 0 rfl ?_
  refine g_J26_19_14 X (dt tJ26_checkForComodification 4 rfl) hb rfl ?_
  refine J_icmp_eq X 22 (dt tJ26_checkForComodification 5 rfl) (by decide) (fun _ => ?_) (fun c9 => absurd (rfl) c9)
  exact J_vret X rr (dt tJ26_checkForComodification 10 rfl) (Nat.le_of_ble_eq_true rfl) (Nat.le_of_ble_eq_true rfl) ⟨rfl, rfl⟩
abbrev cJ26_next : ByteArray := prog_53_method_3_code
def yJ26_next : MethodName := ⟨RJ26, "next", "()Ljava/lang/Object;"⟩
theorem tJ26_next : dtab cJ26_next [(0, .aload_n 0, 1, 1), (1, .invokevirtual 36, 3, 4), (4, .aload_n 0, 1, 5), (5, .invokevirtual 39, 3, 8), (8, .ifCond .ne 11, 3, 11), (11, .new 43, 3, 14), (14, .dup, 1, 15), (15, .invokespecial 45, 3, 18), (18, .athrow, 1, 19), (19, .aload_n 0, 1, 20), (20, .aload_n 0, 1, 21), (21, .getfield 29, 3, 24), (24, .putfield 46, 3, 27), (27, .aload_n 0, 1, 28), (28, .aload_n 0, 1, 29), (29, .getfield 29, 3, 32), (32, .getfield 49, 3, 35), (35, .putfield 29, 3, 38), (38, .aload_n 0, 1, 39), (39, .dup, 1, 40), (40, .getfield 33, 3, 43), (43, .iconst 1, 1, 44), (44, .iadd, 1, 45), (45, .putfield 33, 3, 48), (48, .aload_n 0, 1, 49), (49, .getfield 46, 3, 52), (52, .getfield 52, 3, 55), (55, .areturn, 1, 56)] := by unfold dtab; decide +kernel
theorem okJ26_next : okY yJ26_next 0 := by decide +kernel
set_option maxHeartbeats 4000000 in
theorem c_LInext (l : Launch) (D : va_G) (h : PH) {a n b i : Nat} {md : Int32} {nd it : Nat → Nat} {lr : Option Nat}  (hl : LLf h a md n nd it) (hn : n < 130) (hi : i < n) (hb : h b = some (eo 14 [va_rf lr, va_rf (licur n nd i), .int (nI i), .int md, .ref a])) : Ct l D yJ26_next cJ26_next 1 (some (.object "java/lang/Object")) (rmC 1 20 0 0) [.ref b] h (PS (pu h b (eo 14 [.ref (nd i), va_rf (licur n nd (i + 1)), .int (nI (i + 1)), .int md, .ref a])) (some (.ref (it i)))) := by
  refine Ct.of (by decide) rfl (fun Γ X rr hmn => ?_)
  have X : Cx l D cJ26_next RJ26 1 (rmC 1 20 0 0) Γ := X
  show J Γ h 0 0 0 [(0, .ref b)] []
  refine J_aload_n X (dt tJ26_next 0 rfl) 0 rfl ?_
  refine J_callVR (rest := []) X (T := TJ26) (dt tJ26_next 1 rfl) (c_LIchk l D _ (lr := lr) (cu := licur n nd i) hl (by omega) hb) (lw_V q1007 q1008 q1009 q104 q1010) okJ26_checkForComodification rfl (Or.inl hb) rfl ⟨Nat.le_of_ble_eq_true rfl, Nat.le_of_ble_eq_true rfl⟩ rfl (Nat.le_of_ble_eq_true rfl) (Nat.le_of_ble_eq_true rfl) (Nat.le_of_ble_eq_true rfl) (fun v9 h9 hp9 => ?_)
  obtain ⟨rfl, e9⟩ := hp9
  rw [e9]
  show J Γ h 0 0 4 [(0, .ref b)] []
  refine J_aload_n X (dt tJ26_next 2 rfl) 0 rfl ?_
  refine J_callVR (rest := []) X (T := TJ26) (dt tJ26_next 3 rfl) (c_LIhas l D _ (lr := lr) (cu := licur n nd i) hl (by omega) hb) (lw_V q1011 q740 q2138 q104 q742) okJ26_hasNext rfl (Or.inl hb) rfl ⟨Nat.le_of_ble_eq_true rfl, Nat.le_of_ble_eq_true rfl⟩ rfl (Nat.le_of_ble_eq_true rfl) (Nat.le_of_ble_eq_true rfl) (Nat.le_of_ble_eq_true rfl) (fun v9 h9 hp9 => ?_)
  obtain ⟨rfl, e9⟩ := hp9
  rw [e9]
  show J Γ h 0 0 8 [(0, .ref b)] [.int (if nI n ≤ nI i then nI 0 else nI 1)]
  refine J_topi (if_neg (nI_ge hi (by omega))) ?_
  refine J_if_ne X 19 (dt tJ26_next 4 rfl) (by decide) (fun _ => ?_) (fun c9 => absurd c9 (by decide))
  refine J_aload_n X (dt tJ26_next 9 rfl) 0 rfl ?_
  refine J_aload_n X (dt tJ26_next 10 rfl) 0 rfl ?_
  refine g_J26_29_14 X (dt tJ26_next 11 rfl) hb rfl ?_
  refine J_topq (rf_s (if_pos hi)) ?_
  refine p_J26_46_14 X (fs2 := [.ref (nd i), va_rf (licur n nd i), .int (nI i), .int md, .ref a]) (dt tJ26_next 12 rfl) hb rfl rfl rfl rfl ?_
  refine J_aload_n X (dt tJ26_next 13 rfl) 0 rfl ?_
  refine J_aload_n X (dt tJ26_next 14 rfl) 0 rfl ?_
  refine g_J26_29_14 X (dt tJ26_next 15 rfl) (pu_s _ _ _) rfl ?_
  refine J_topq (rf_s (if_pos hi)) ?_
  refine g_J26_49_12 X (dt tJ26_next 16 rfl) (pu_o (ne_c (hl.2.1 i (by omega)) hb (by decide)) (hl.2.1 i (by omega))) rfl ?_
  refine p_J26_29_14 X (fs2 := [.ref (nd i), va_rf (lnxt n nd i), .int (nI i), .int md, .ref a]) (dt tJ26_next 17 rfl) (pu_s _ _ _) (nar_q _) (fit_q _) rfl rfl ?_
  refine J_heap (h2 := pu h b (eo 14 [.ref (nd i), va_rf (lnxt n nd i), .int (nI i), .int md, .ref a])) (pu_pu _ _ _ _) ?_
  refine J_aload_n X (dt tJ26_next 18 rfl) 0 rfl ?_
  refine J_dup X (dt tJ26_next 19 rfl) rfl ?_
  refine g_J26_33_14 X (dt tJ26_next 20 rfl) (pu_s _ _ _) rfl ?_
  refine J_iconst X (nI 1) (dt tJ26_next 21 rfl) (by decide) ?_
  refine J_iaddN X (dt tJ26_next 22 rfl) ?_
  refine p_J26_33_14 X (fs2 := [.ref (nd i), va_rf (lnxt n nd i), .int (nI (i + 1)), .int md, .ref a]) (dt tJ26_next 23 rfl) (pu_s _ _ _) rfl rfl rfl rfl ?_
  refine J_heap (h2 := pu h b (eo 14 [.ref (nd i), va_rf (lnxt n nd i), .int (nI (i + 1)), .int md, .ref a])) (pu_pu _ _ _ _) ?_
  refine J_aload_n X (dt tJ26_next 24 rfl) 0 rfl ?_
  refine g_J26_46_14 X (dt tJ26_next 25 rfl) (pu_s _ _ _) rfl ?_
  refine g_J26_52_12 X (dt tJ26_next 26 rfl) (pu_o (ne_c (hl.2.1 i (by omega)) hb (by decide)) (hl.2.1 i (by omega))) rfl ?_
  exact J_aret X rr (dt tJ26_next 27 rfl) (Nat.le_of_ble_eq_true rfl) (Nat.le_of_ble_eq_true rfl) (Or.inl ⟨_, rfl⟩) (Or.inr ⟨_, rfl⟩) ⟨rfl, rfl⟩
