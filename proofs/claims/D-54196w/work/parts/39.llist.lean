/-! printed by gen/compw.py -/
set_option maxRecDepth 100000
theorem q74 : (Jvm.Cond.initialized "java/util/AbstractSequentialList") ∈ lw_all := lw_g (lw_at lw_m1 6 rfl) rfl
theorem q75 : (Jvm.Cond.initialized "java/util/LinkedList") ∈ lw_all := lw_g (lw_at lw_m1 7 rfl) rfl
theorem q97 : (Jvm.Cond.initialized "java/util/LinkedList$Node") ∈ lw_all := lw_g (lw_at lw_m1 29 rfl) rfl
theorem q148 : (Jvm.Cond.sameField "java/util/LinkedList" "java/util/AbstractList" "modCount" "I") ∈ lw_all := lw_g (lw_at lw_m1 80 rfl) rfl
theorem q152 : (Jvm.Cond.fieldLink "java/util/LinkedList" (33 : Nat) "java/util/LinkedList" "modCount" "I") ∈ lw_all := lw_g (lw_at lw_m1 84 rfl) rfl
theorem q166 : (Jvm.Cond.methodLink "java/util/LinkedList" (1 : Nat) ({ cls := "java/util/AbstractSequentialList", name := "<init>", desc := "()V" } : Jvm.MethodName)) ∈ lw_all := lw_g (lw_at lw_m1 98 rfl) rfl
theorem q167 : (Jvm.Cond.instanceMethod ({ cls := "java/util/AbstractSequentialList", name := "<init>", desc := "()V" } : Jvm.MethodName)) ∈ lw_all := lw_g (lw_at lw_m1 99 rfl) rfl
theorem q168 : (Jvm.Cond.code ({ cls := "java/util/AbstractSequentialList", name := "<init>", desc := "()V" } : Jvm.MethodName) prog_42_method_1_code (1 : Nat) (Option.none : Option Jvm.ClassFile.FieldType)) ∈ lw_all := lw_g (lw_at lw_m1 100 rfl) rfl
theorem q169 : (Jvm.Cond.methodLink "java/util/AbstractSequentialList" (1 : Nat) ({ cls := "java/util/AbstractList", name := "<init>", desc := "()V" } : Jvm.MethodName)) ∈ lw_all := lw_g (lw_at lw_m1 101 rfl) rfl
theorem q170 : (Jvm.Cond.fieldLink "java/util/LinkedList" (7 : Nat) "java/util/LinkedList" "size" "I") ∈ lw_all := lw_g (lw_at lw_m1 102 rfl) rfl
theorem q172 : (Jvm.Cond.fieldLink "java/util/LinkedList" (18 : Nat) "java/util/LinkedList" "first" "Ljava/util/LinkedList$Node;") ∈ lw_all := lw_g (lw_at lw_m1 104 rfl) rfl
theorem q173 : (Jvm.Cond.fieldLink "java/util/LinkedList" (27 : Nat) "java/util/LinkedList" "last" "Ljava/util/LinkedList$Node;") ∈ lw_all := lw_g (lw_at lw_m1 105 rfl) rfl
theorem q597 : (Jvm.Cond.methodLink "java/util/AbstractCollection" (7 : Nat) ({ cls := "java/util/AbstractCollection", name := "size", desc := "()I" } : Jvm.MethodName)) ∈ lw_all := lw_g (lw_at lw_m3 49 rfl) rfl
theorem q598 : (Jvm.Cond.declares ({ cls := "java/util/AbstractCollection", name := "size", desc := "()I" } : Jvm.MethodName)) ∈ lw_tbl := lw_at lw_m3 50 rfl
theorem q599 : (Jvm.Cond.sameMethod "java/util/AbstractCollection" "java/util/AbstractCollection" "size" "()I") ∈ lw_all := lw_g (lw_at lw_m3 51 rfl) rfl
theorem q609 : (Jvm.Cond.selects "java/util/LinkedList" ({ cls := "java/util/AbstractCollection", name := "size", desc := "()I" } : Jvm.MethodName) ({ cls := "java/util/LinkedList", name := "size", desc := "()I" } : Jvm.MethodName)) ∈ lw_all := lw_g (lw_at lw_m3 61 rfl) rfl
theorem q610 : (Jvm.Cond.instanceMethod ({ cls := "java/util/LinkedList", name := "size", desc := "()I" } : Jvm.MethodName)) ∈ lw_all := lw_g (lw_at lw_m3 62 rfl) rfl
theorem q611 : (Jvm.Cond.code ({ cls := "java/util/LinkedList", name := "size", desc := "()I" } : Jvm.MethodName) prog_52_method_16_code (1 : Nat) (Option.some Jvm.ClassFile.FieldType.int)) ∈ lw_all := lw_g (lw_at lw_m3 63 rfl) rfl
theorem q636 : (Jvm.Cond.methodLink "java/util/LinkedList" (53 : Nat) ({ cls := "java/util/LinkedList", name := "linkFirst", desc := "(Ljava/lang/Object;)V" } : Jvm.MethodName)) ∈ lw_all := lw_g (lw_at lw_m3 88 rfl) rfl
theorem q638 : (Jvm.Cond.instanceMethod ({ cls := "java/util/LinkedList", name := "linkFirst", desc := "(Ljava/lang/Object;)V" } : Jvm.MethodName)) ∈ lw_all := lw_g (lw_at lw_m3 90 rfl) rfl
theorem q639 : (Jvm.Cond.code ({ cls := "java/util/LinkedList", name := "linkFirst", desc := "(Ljava/lang/Object;)V" } : Jvm.MethodName) prog_52_method_3_code (4 : Nat) (Option.none : Option Jvm.ClassFile.FieldType)) ∈ lw_all := lw_g (lw_at lw_m3 91 rfl) rfl
theorem q640 : (Jvm.Cond.classLink "java/util/LinkedList" (22 : Nat) "java/util/LinkedList$Node") ∈ lw_all := lw_g (lw_at lw_m3 92 rfl) rfl
theorem q641 : (Jvm.Cond.instantiable "java/util/LinkedList$Node" (3 : Nat)) ∈ lw_all := lw_g (lw_at lw_m3 93 rfl) rfl
theorem q642 : (Jvm.Cond.methodLink "java/util/LinkedList" (24 : Nat) ({ cls := "java/util/LinkedList$Node", name := "<init>", desc := "(Ljava/util/LinkedList$Node;Ljava/lang/Object;Ljava/util/LinkedList$Node;)V" } : Jvm.MethodName)) ∈ lw_all := lw_g (lw_at lw_m3 94 rfl) rfl
theorem q643 : (Jvm.Cond.instanceMethod ({ cls := "java/util/LinkedList$Node", name := "<init>", desc := "(Ljava/util/LinkedList$Node;Ljava/lang/Object;Ljava/util/LinkedList$Node;)V" } : Jvm.MethodName)) ∈ lw_all := lw_g (lw_at lw_m3 95 rfl) rfl
theorem q644 : (Jvm.Cond.code ({ cls := "java/util/LinkedList$Node", name := "<init>", desc := "(Ljava/util/LinkedList$Node;Ljava/lang/Object;Ljava/util/LinkedList$Node;)V" } : Jvm.MethodName) prog_54_method_1_code (4 : Nat) (Option.none : Option Jvm.ClassFile.FieldType)) ∈ lw_all := lw_g (lw_at lw_m3 96 rfl) rfl
theorem q645 : (Jvm.Cond.methodLink "java/util/LinkedList$Node" (1 : Nat) ({ cls := "java/lang/Object", name := "<init>", desc := "()V" } : Jvm.MethodName)) ∈ lw_all := lw_g (lw_at lw_m3 97 rfl) rfl
theorem q646 : (Jvm.Cond.fieldLink "java/util/LinkedList$Node" (7 : Nat) "java/util/LinkedList$Node" "item" "Ljava/lang/Object;") ∈ lw_all := lw_g (lw_at lw_m3 98 rfl) rfl
theorem q648 : (Jvm.Cond.fieldLink "java/util/LinkedList" (39 : Nat) "java/util/LinkedList$Node" "item" "Ljava/lang/Object;") ∈ lw_all := lw_g (lw_at lw_m3 100 rfl) rfl
theorem q649 : (Jvm.Cond.fieldLink "java/util/LinkedList$Node" (13 : Nat) "java/util/LinkedList$Node" "next" "Ljava/util/LinkedList$Node;") ∈ lw_all := lw_g (lw_at lw_m3 101 rfl) rfl
theorem q651 : (Jvm.Cond.fieldLink "java/util/LinkedList" (36 : Nat) "java/util/LinkedList$Node" "next" "Ljava/util/LinkedList$Node;") ∈ lw_all := lw_g (lw_at lw_m3 103 rfl) rfl
theorem q652 : (Jvm.Cond.fieldLink "java/util/LinkedList$Node" (17 : Nat) "java/util/LinkedList$Node" "prev" "Ljava/util/LinkedList$Node;") ∈ lw_all := lw_g (lw_at lw_m3 104 rfl) rfl
theorem q653 : (Jvm.Cond.fieldLink "java/util/LinkedList" (30 : Nat) "java/util/LinkedList$Node" "prev" "Ljava/util/LinkedList$Node;") ∈ lw_all := lw_g (lw_at lw_m3 105 rfl) rfl
theorem q666 : (Jvm.Cond.methodLink "java/util/LinkedList" (50 : Nat) ({ cls := "java/util/LinkedList", name := "unlinkLast", desc := "(Ljava/util/LinkedList$Node;)Ljava/lang/Object;" } : Jvm.MethodName)) ∈ lw_all := lw_g (lw_at lw_m3 118 rfl) rfl
theorem q668 : (Jvm.Cond.instanceMethod ({ cls := "java/util/LinkedList", name := "unlinkLast", desc := "(Ljava/util/LinkedList$Node;)Ljava/lang/Object;" } : Jvm.MethodName)) ∈ lw_all := lw_g (lw_at lw_m3 120 rfl) rfl
theorem q669 : (Jvm.Cond.code ({ cls := "java/util/LinkedList", name := "unlinkLast", desc := "(Ljava/util/LinkedList$Node;)Ljava/lang/Object;" } : Jvm.MethodName) prog_52_method_7_code (4 : Nat) (Option.some (Jvm.ClassFile.FieldType.object "java/lang/Object"))) ∈ lw_all := lw_g (lw_at lw_m3 121 rfl) rfl
theorem q1097 : (Jvm.Cond.methodLink "java/util/LinkedList" (57 : Nat) ({ cls := "java/util/LinkedList", name := "linkLast", desc := "(Ljava/lang/Object;)V" } : Jvm.MethodName)) ∈ lw_all := lw_g (lw_at lw_m5 69 rfl) rfl
theorem q1098 : (Jvm.Cond.instanceMethod ({ cls := "java/util/LinkedList", name := "linkLast", desc := "(Ljava/lang/Object;)V" } : Jvm.MethodName)) ∈ lw_all := lw_g (lw_at lw_m5 70 rfl) rfl
theorem q1099 : (Jvm.Cond.selects "java/util/LinkedList" ({ cls := "java/util/LinkedList", name := "linkLast", desc := "(Ljava/lang/Object;)V" } : Jvm.MethodName) ({ cls := "java/util/LinkedList", name := "linkLast", desc := "(Ljava/lang/Object;)V" } : Jvm.MethodName)) ∈ lw_all := lw_g (lw_at lw_m5 71 rfl) rfl
theorem q1100 : (Jvm.Cond.code ({ cls := "java/util/LinkedList", name := "linkLast", desc := "(Ljava/lang/Object;)V" } : Jvm.MethodName) prog_52_method_4_code (4 : Nat) (Option.none : Option Jvm.ClassFile.FieldType)) ∈ lw_all := lw_g (lw_at lw_m5 72 rfl) rfl
theorem q1712 : (Jvm.Cond.methodLink "java/util/LinkedList" (46 : Nat) ({ cls := "java/util/LinkedList", name := "unlinkFirst", desc := "(Ljava/util/LinkedList$Node;)Ljava/lang/Object;" } : Jvm.MethodName)) ∈ lw_all := lw_g (lw_at lw_m7 204 rfl) rfl
theorem q1714 : (Jvm.Cond.instanceMethod ({ cls := "java/util/LinkedList", name := "unlinkFirst", desc := "(Ljava/util/LinkedList$Node;)Ljava/lang/Object;" } : Jvm.MethodName)) ∈ lw_all := lw_g (lw_at lw_m7 206 rfl) rfl
theorem q1715 : (Jvm.Cond.code ({ cls := "java/util/LinkedList", name := "unlinkFirst", desc := "(Ljava/util/LinkedList$Node;)Ljava/lang/Object;" } : Jvm.MethodName) prog_52_method_6_code (4 : Nat) (Option.some (Jvm.ClassFile.FieldType.object "java/lang/Object"))) ∈ lw_all := lw_g (lw_at lw_m7 207 rfl) rfl
def RJ3 : String := "java/util/AbstractSequentialList"
section
variable {l : Launch} {D : va_G} {cc : ByteArray} {nL : Nat} {rm : Room} {Γ : Cxt} {h : PH} {k n pc nx : Nat} {lv : List (Nat × Value)} {st : List Value}
theorem p_J20_7_12 (X : Cx l D cc RJ20 nL rm Γ) {a : Nat} {fs fs2 : List Value} {v : Value} (d : At cc pc (.putfield 7) 3 nx) (ha : h a = some (eo 12 fs)) (hn : narrow (.object "java/lang/Object") v = v) (hfit : fits (.object "java/lang/Object") v = true) (hl2 : Nat.ble (0 + 1) fs.length = true) (hfs : fs.set 0 v = fs2) (kk : J Γ (pu h a (eo 12 fs2)) k n nx lv st) : J Γ h k n pc lv (v :: .ref a :: st) := J_put X (kf := 0) (tf := tyJ20) d ha (show vwCl[12]? = some (RJ20, TJ20, 3) from rfl) in_J20 tyJ20_ok nmJ20 rfl q646 rfl rfl rfl hn hfit hl2 hfs kk
theorem p_J20_13_12 (X : Cx l D cc RJ20 nL rm Γ) {a : Nat} {fs fs2 : List Value} {v : Value} (d : At cc pc (.putfield 13) 3 nx) (ha : h a = some (eo 12 fs)) (hn : narrow (.object "java/util/LinkedList$Node") v = v) (hfit : fits (.object "java/util/LinkedList$Node") v = true) (hl2 : Nat.ble (1 + 1) fs.length = true) (hfs : fs.set 1 v = fs2) (kk : J Γ (pu h a (eo 12 fs2)) k n nx lv st) : J Γ h k n pc lv (v :: .ref a :: st) := J_put X (kf := 1) (tf := tyJ20) d ha (show vwCl[12]? = some (RJ20, TJ20, 3) from rfl) in_J20 tyJ20_ok nmJ20 rfl q649 rfl rfl rfl hn hfit hl2 hfs kk
theorem p_J20_17_12 (X : Cx l D cc RJ20 nL rm Γ) {a : Nat} {fs fs2 : List Value} {v : Value} (d : At cc pc (.putfield 17) 3 nx) (ha : h a = some (eo 12 fs)) (hn : narrow (.object "java/util/LinkedList$Node") v = v) (hfit : fits (.object "java/util/LinkedList$Node") v = true) (hl2 : Nat.ble (2 + 1) fs.length = true) (hfs : fs.set 2 v = fs2) (kk : J Γ (pu h a (eo 12 fs2)) k n nx lv st) : J Γ h k n pc lv (v :: .ref a :: st) := J_put X (kf := 2) (tf := tyJ20) d ha (show vwCl[12]? = some (RJ20, TJ20, 3) from rfl) in_J20 tyJ20_ok nmJ20 rfl q652 rfl rfl rfl hn hfit hl2 hfs kk
theorem p_J4_7_3 (X : Cx l D cc RJ4 nL rm Γ) {a : Nat} {fs fs2 : List Value} {v : Value} (d : At cc pc (.putfield 7) 3 nx) (ha : h a = some (eo 3 fs)) (hn : narrow (.int) v = v) (hfit : fits (.int) v = true) (hl2 : Nat.ble (1 + 1) fs.length = true) (hfs : fs.set 1 v = fs2) (kk : J Γ (pu h a (eo 3 fs2)) k n nx lv st) : J Γ h k n pc lv (v :: .ref a :: st) := J_put X (kf := 1) (tf := tyJ4) d ha (show vwCl[3]? = some (RJ4, TJ4, 4) from rfl) in_J4 tyJ4_ok nmJ4 rfl q170 rfl rfl rfl hn hfit hl2 hfs kk
theorem g_J4_27_3 (X : Cx l D cc RJ4 nL rm Γ) {a : Nat} {fs : List Value} {v : Value} (d : At cc pc (.getfield 27) 3 nx) (ha : h a = some (eo 3 fs)) (hv : fs[3]? = some v) (kk : J Γ h k n nx lv (v :: st)) : J Γ h k n pc lv (.ref a :: st) := J_get X (kf := 3) d ha (show vwCl[3]? = some (RJ4, TJ4, 4) from rfl) in_J4 rfl q173 rfl hv kk
theorem n_J4_22 (X : Cx l D cc RJ4 nL rm Γ) (d : At cc pc (.new 22) 3 nx) (hk : k + 1 ≤ rm.cells) (hn : n + 3 ≤ rm.slots) (kk : ∀ q, h q = none → J Γ (pu h q (eo 12 [.null, .null, .null])) (k + 1) (n + 3) nx lv (.ref q :: st)) : J Γ h k n pc lv st := J_new X (tf := tyJ20) d (show vwCl[12]? = some (RJ20, TJ20, 3) from rfl) in_J20 tyJ20_ok q640 q641 q97 (by decide) hk hn kk
theorem p_J4_27_3 (X : Cx l D cc RJ4 nL rm Γ) {a : Nat} {fs fs2 : List Value} {v : Value} (d : At cc pc (.putfield 27) 3 nx) (ha : h a = some (eo 3 fs)) (hn : narrow (.object "java/util/LinkedList$Node") v = v) (hfit : fits (.object "java/util/LinkedList$Node") v = true) (hl2 : Nat.ble (3 + 1) fs.length = true) (hfs : fs.set 3 v = fs2) (kk : J Γ (pu h a (eo 3 fs2)) k n nx lv st) : J Γ h k n pc lv (v :: .ref a :: st) := J_put X (kf := 3) (tf := tyJ4) d ha (show vwCl[3]? = some (RJ4, TJ4, 4) from rfl) in_J4 tyJ4_ok nmJ4 rfl q173 rfl rfl rfl hn hfit hl2 hfs kk
theorem p_J4_36_12 (X : Cx l D cc RJ4 nL rm Γ) {a : Nat} {fs fs2 : List Value} {v : Value} (d : At cc pc (.putfield 36) 3 nx) (ha : h a = some (eo 12 fs)) (hn : narrow (.object "java/util/LinkedList$Node") v = v) (hfit : fits (.object "java/util/LinkedList$Node") v = true) (hl2 : Nat.ble (1 + 1) fs.length = true) (hfs : fs.set 1 v = fs2) (kk : J Γ (pu h a (eo 12 fs2)) k n nx lv st) : J Γ h k n pc lv (v :: .ref a :: st) := J_put X (kf := 1) (tf := tyJ20) d ha (show vwCl[12]? = some (RJ20, TJ20, 3) from rfl) in_J20 tyJ20_ok nmJ20 rfl q651 rfl rfl rfl hn hfit hl2 hfs kk
theorem g_J4_7_3 (X : Cx l D cc RJ4 nL rm Γ) {a : Nat} {fs : List Value} {v : Value} (d : At cc pc (.getfield 7) 3 nx) (ha : h a = some (eo 3 fs)) (hv : fs[1]? = some v) (kk : J Γ h k n nx lv (v :: st)) : J Γ h k n pc lv (.ref a :: st) := J_get X (kf := 1) d ha (show vwCl[3]? = some (RJ4, TJ4, 4) from rfl) in_J4 rfl q170 rfl hv kk
theorem g_J4_33_3 (X : Cx l D cc RJ4 nL rm Γ) {a : Nat} {fs : List Value} {v : Value} (d : At cc pc (.getfield 33) 3 nx) (ha : h a = some (eo 3 fs)) (hv : fs[0]? = some v) (kk : J Γ h k n nx lv (v :: st)) : J Γ h k n pc lv (.ref a :: st) := J_getS X (kf := 0) d ha (show vwCl[3]? = some (RJ4, TJ4, 4) from rfl) in_J4 rfl q152 q148 hv kk
theorem p_J4_33_3 (X : Cx l D cc RJ4 nL rm Γ) {a : Nat} {fs fs2 : List Value} {v : Value} (d : At cc pc (.putfield 33) 3 nx) (ha : h a = some (eo 3 fs)) (hn : narrow (.int) v = v) (hfit : fits (.int) v = true) (hl2 : Nat.ble (0 + 1) fs.length = true) (hfs : fs.set 0 v = fs2) (kk : J Γ (pu h a (eo 3 fs2)) k n nx lv st) : J Γ h k n pc lv (v :: .ref a :: st) := J_putS X (kf := 0) (tf := tyJ4) d ha (show vwCl[3]? = some (RJ4, TJ4, 4) from rfl) in_J4 tyJ4_ok nmJ4 rfl q152 q148 rfl rfl hn hfit hl2 hfs kk
theorem p_J4_18_3 (X : Cx l D cc RJ4 nL rm Γ) {a : Nat} {fs fs2 : List Value} {v : Value} (d : At cc pc (.putfield 18) 3 nx) (ha : h a = some (eo 3 fs)) (hn : narrow (.object "java/util/LinkedList$Node") v = v) (hfit : fits (.object "java/util/LinkedList$Node") v = true) (hl2 : Nat.ble (2 + 1) fs.length = true) (hfs : fs.set 2 v = fs2) (kk : J Γ (pu h a (eo 3 fs2)) k n nx lv st) : J Γ h k n pc lv (v :: .ref a :: st) := J_put X (kf := 2) (tf := tyJ4) d ha (show vwCl[3]? = some (RJ4, TJ4, 4) from rfl) in_J4 tyJ4_ok nmJ4 rfl q172 rfl rfl rfl hn hfit hl2 hfs kk
theorem g_J4_18_3 (X : Cx l D cc RJ4 nL rm Γ) {a : Nat} {fs : List Value} {v : Value} (d : At cc pc (.getfield 18) 3 nx) (ha : h a = some (eo 3 fs)) (hv : fs[2]? = some v) (kk : J Γ h k n nx lv (v :: st)) : J Γ h k n pc lv (.ref a :: st) := J_get X (kf := 2) d ha (show vwCl[3]? = some (RJ4, TJ4, 4) from rfl) in_J4 rfl q172 rfl hv kk
theorem p_J4_30_12 (X : Cx l D cc RJ4 nL rm Γ) {a : Nat} {fs fs2 : List Value} {v : Value} (d : At cc pc (.putfield 30) 3 nx) (ha : h a = some (eo 12 fs)) (hn : narrow (.object "java/util/LinkedList$Node") v = v) (hfit : fits (.object "java/util/LinkedList$Node") v = true) (hl2 : Nat.ble (2 + 1) fs.length = true) (hfs : fs.set 2 v = fs2) (kk : J Γ (pu h a (eo 12 fs2)) k n nx lv st) : J Γ h k n pc lv (v :: .ref a :: st) := J_put X (kf := 2) (tf := tyJ20) d ha (show vwCl[12]? = some (RJ20, TJ20, 3) from rfl) in_J20 tyJ20_ok nmJ20 rfl q653 rfl rfl rfl hn hfit hl2 hfs kk
theorem g_J4_39_12 (X : Cx l D cc RJ4 nL rm Γ) {a : Nat} {fs : List Value} {v : Value} (d : At cc pc (.getfield 39) 3 nx) (ha : h a = some (eo 12 fs)) (hv : fs[0]? = some v) (kk : J Γ h k n nx lv (v :: st)) : J Γ h k n pc lv (.ref a :: st) := J_get X (kf := 0) d ha (show vwCl[12]? = some (RJ20, TJ20, 3) from rfl) in_J20 rfl q648 rfl hv kk
theorem g_J4_30_12 (X : Cx l D cc RJ4 nL rm Γ) {a : Nat} {fs : List Value} {v : Value} (d : At cc pc (.getfield 30) 3 nx) (ha : h a = some (eo 12 fs)) (hv : fs[2]? = some v) (kk : J Γ h k n nx lv (v :: st)) : J Γ h k n pc lv (.ref a :: st) := J_get X (kf := 2) d ha (show vwCl[12]? = some (RJ20, TJ20, 3) from rfl) in_J20 rfl q653 rfl hv kk
theorem p_J4_39_12 (X : Cx l D cc RJ4 nL rm Γ) {a : Nat} {fs fs2 : List Value} {v : Value} (d : At cc pc (.putfield 39) 3 nx) (ha : h a = some (eo 12 fs)) (hn : narrow (.object "java/lang/Object") v = v) (hfit : fits (.object "java/lang/Object") v = true) (hl2 : Nat.ble (0 + 1) fs.length = true) (hfs : fs.set 0 v = fs2) (kk : J Γ (pu h a (eo 12 fs2)) k n nx lv st) : J Γ h k n pc lv (v :: .ref a :: st) := J_put X (kf := 0) (tf := tyJ20) d ha (show vwCl[12]? = some (RJ20, TJ20, 3) from rfl) in_J20 tyJ20_ok nmJ20 rfl q648 rfl rfl rfl hn hfit hl2 hfs kk
theorem g_J4_36_12 (X : Cx l D cc RJ4 nL rm Γ) {a : Nat} {fs : List Value} {v : Value} (d : At cc pc (.getfield 36) 3 nx) (ha : h a = some (eo 12 fs)) (hv : fs[1]? = some v) (kk : J Γ h k n nx lv (v :: st)) : J Γ h k n pc lv (.ref a :: st) := J_get X (kf := 1) d ha (show vwCl[12]? = some (RJ20, TJ20, 3) from rfl) in_J20 rfl q651 rfl hv kk
end
abbrev cJ20_init : ByteArray := prog_54_method_1_code
def yJ20_init : MethodName := ⟨RJ20, "<init>", "(Ljava/util/LinkedList$Node;Ljava/lang/Object;Ljava/util/LinkedList$Node;)V"⟩
theorem tJ20_init : dtab cJ20_init [(0, .aload_n 0, 1, 1), (1, .invokespecial 1, 3, 4), (4, .aload_n 0, 1, 5), (5, .aload_n 2, 1, 6), (6, .putfield 7, 3, 9), (9, .aload_n 0, 1, 10), (10, .aload_n 3, 1, 11), (11, .putfield 13, 3, 14), (14, .aload_n 0, 1, 15), (15, .aload_n 1, 1, 16), (16, .putfield 17, 3, 19), (19, .return_, 1, 20)] := by unfold dtab; decide +kernel
theorem okJ20_init : okY yJ20_init 3 := by decide +kernel
set_option maxHeartbeats 4000000 in
theorem c_NDinit (l : Launch) (D : va_G) (h : PH) {q x : Nat} {nx pv : Option Nat} (hq : h q = some (eo 12 [.null, .null, .null]))  : Ct l D yJ20_init cJ20_init 4 none (rmC 1 20 0 0) [.ref q, va_rf pv, .ref x, va_rf nx] h (PS (pu h q (eo 12 [.ref x, va_rf nx, va_rf pv])) (none)) := by
  refine Ct.of (by decide) (by cases pv <;> cases nx <;> rfl) (fun Γ X rr hmn => ?_)
  have X : Cx l D cJ20_init RJ20 4 (rmC 1 20 0 0) Γ := X
  rw [show lv_args 0 [.ref q, va_rf pv, .ref x, va_rf nx] = [(0, .ref q), (1, va_rf pv), (2, .ref x), (3, va_rf nx)] from (by cases pv <;> cases nx <;> rfl)]
  show J Γ h 0 0 0 [(0, .ref q), (1, va_rf pv), (2, .ref x), (3, va_rf nx)] []
  refine J_aload_n X (dt tJ20_init 0 rfl) 0 rfl ?_
  refine J_objI X (dt tJ20_init 1 rfl) q645 q118 q119 (Nat.le_of_ble_eq_true rfl) (Nat.le_of_ble_eq_true rfl) ?_
  refine J_aload_n X (dt tJ20_init 2 rfl) 0 rfl ?_
  refine J_aload_n X (dt tJ20_init 3 rfl) 2 rfl ?_
  refine p_J20_7_12 X (fs2 := [.ref x, .null, .null]) (dt tJ20_init 4 rfl) hq rfl rfl rfl rfl ?_
  refine J_aload_n X (dt tJ20_init 5 rfl) 0 rfl ?_
  refine J_aload_nq X (dt tJ20_init 6 rfl) 3 rfl ?_
  refine p_J20_13_12 X (fs2 := [.ref x, va_rf nx, .null]) (dt tJ20_init 7 rfl) (pu_s _ _ _) (nar_q _) (fit_q _) rfl rfl ?_
  refine J_heap (h2 := pu h q (eo 12 [.ref x, va_rf nx, .null])) (pu_pu _ _ _ _) ?_
  refine J_aload_n X (dt tJ20_init 8 rfl) 0 rfl ?_
  refine J_aload_nq X (dt tJ20_init 9 rfl) 1 rfl ?_
  refine p_J20_17_12 X (fs2 := [.ref x, va_rf nx, va_rf pv]) (dt tJ20_init 10 rfl) (pu_s _ _ _) (nar_q _) (fit_q _) rfl rfl ?_
  refine J_heap (h2 := pu h q (eo 12 [.ref x, va_rf nx, va_rf pv])) (pu_pu _ _ _ _) ?_
  exact J_vret X rr (dt tJ20_init 11 rfl) (Nat.le_of_ble_eq_true rfl) (Nat.le_of_ble_eq_true rfl) ⟨rfl, rfl⟩
abbrev cJ3_init : ByteArray := prog_42_method_1_code
def yJ3_init : MethodName := ⟨RJ3, "<init>", "()V"⟩
theorem tJ3_init : dtab cJ3_init [(0, .aload_n 0, 1, 1), (1, .invokespecial 1, 3, 4), (4, .return_, 1, 5)] := by unfold dtab; decide +kernel
theorem okJ3_init : okY yJ3_init 0 := by decide +kernel
set_option maxHeartbeats 4000000 in
theorem c_SLinit (l : Launch) (D : va_G) (h : PH) {a : Nat} (ha : h a = some (eo 3 [.int (nI 0), .int (nI 0), .null, .null]))  : Ct l D yJ3_init cJ3_init 1 none (rmC 3 60 0 0) [.ref a] h (PS (pu h a (eo 3 [.int (nI 0), .int (nI 0), .null, .null])) (none)) := by
  refine Ct.of (by decide) rfl (fun Γ X rr hmn => ?_)
  have X : Cx l D cJ3_init RJ3 1 (rmC 3 60 0 0) Γ := X
  show J Γ h 0 0 0 [(0, .ref a)] []
  refine J_aload_n X (dt tJ3_init 0 rfl) 0 rfl ?_
  refine J_callI (rest := []) X (dt tJ3_init 1 rfl) (c_ALinit3 l D _ ha) (lw_meth q135) q72 q169 q134 rfl okJ1_init rfl ⟨Nat.le_of_ble_eq_true rfl, Nat.le_of_ble_eq_true rfl⟩ rfl (Nat.le_of_ble_eq_true rfl) (Nat.le_of_ble_eq_true rfl) (Nat.le_of_ble_eq_true rfl) (fun v9 h9 hp9 => ?_)
  obtain ⟨rfl, e9⟩ := hp9
  rw [e9]
  show J Γ (pu h a (eo 3 [.int (nI 0), .int (nI 0), .null, .null])) 0 0 4 [(0, .ref a)] []
  exact J_vret X rr (dt tJ3_init 2 rfl) (Nat.le_of_ble_eq_true rfl) (Nat.le_of_ble_eq_true rfl) ⟨rfl, rfl⟩
abbrev cJ4_init : ByteArray := prog_52_method_1_code
def yJ4_init : MethodName := ⟨RJ4, "<init>", "()V"⟩
theorem tJ4_init : dtab cJ4_init [(0, .aload_n 0, 1, 1), (1, .invokespecial 1, 3, 4), (4, .aload_n 0, 1, 5), (5, .iconst 0, 1, 6), (6, .putfield 7, 3, 9), (9, .return_, 1, 10)] := by unfold dtab; decide +kernel
theorem okJ4_init : okY yJ4_init 0 := by decide +kernel
set_option maxHeartbeats 4000000 in
theorem c_LLinit (l : Launch) (D : va_G) (h : PH) {a : Nat} (ha : h a = some (eo 3 [.int (nI 0), .int (nI 0), .null, .null]))  : Ct l D yJ4_init cJ4_init 1 none (rmC 4 80 0 0) [.ref a] h (PS (pu h a (eo 3 [.int (nI 0), .int (nI 0), .null, .null])) (none)) := by
  refine Ct.of (by decide) rfl (fun Γ X rr hmn => ?_)
  have X : Cx l D cJ4_init RJ4 1 (rmC 4 80 0 0) Γ := X
  show J Γ h 0 0 0 [(0, .ref a)] []
  refine J_aload_n X (dt tJ4_init 0 rfl) 0 rfl ?_
  refine J_callI (rest := []) X (dt tJ4_init 1 rfl) (c_SLinit l D _ (a := a) ha) (lw_meth q168) q74 q166 q167 rfl okJ3_init rfl ⟨Nat.le_of_ble_eq_true rfl, Nat.le_of_ble_eq_true rfl⟩ rfl (Nat.le_of_ble_eq_true rfl) (Nat.le_of_ble_eq_true rfl) (Nat.le_of_ble_eq_true rfl) (fun v9 h9 hp9 => ?_)
  obtain ⟨rfl, e9⟩ := hp9
  rw [e9]
  show J Γ (pu h a (eo 3 [.int (nI 0), .int (nI 0), .null, .null])) 0 0 4 [(0, .ref a)] []
  refine J_aload_n X (dt tJ4_init 2 rfl) 0 rfl ?_
  refine J_iconst X (nI 0) (dt tJ4_init 3 rfl) (by decide) ?_
  refine p_J4_7_3 X (fs2 := [.int (nI 0), .int (nI 0), .null, .null]) (dt tJ4_init 4 rfl) (pu_s _ _ _) rfl rfl rfl rfl ?_
  refine J_heap (h2 := pu h a (eo 3 [.int (nI 0), .int (nI 0), .null, .null])) (pu_pu _ _ _ _) ?_
  exact J_vret X rr (dt tJ4_init 5 rfl) (Nat.le_of_ble_eq_true rfl) (Nat.le_of_ble_eq_true rfl) ⟨rfl, rfl⟩
abbrev cJ4_linkLast : ByteArray := prog_52_method_4_code
def yJ4_linkLast : MethodName := ⟨RJ4, "linkLast", "(Ljava/lang/Object;)V"⟩
theorem tJ4_linkLast : dtab cJ4_linkLast [(0, .aload_n 0, 1, 1), (1, .getfield 27, 3, 4), (4, .astore_n 2, 1, 5), (5, .new 22, 3, 8), (8, .dup, 1, 9), (9, .aload_n 2, 1, 10), (10, .aload_n 1, 1, 11), (11, .aconst_null, 1, 12), (12, .invokespecial 24, 3, 15), (15, .astore_n 3, 1, 16), (16, .aload_n 0, 1, 17), (17, .aload_n 3, 1, 18), (18, .putfield 27, 3, 21), (21, .aload_n 2, 1, 22), (22, .ifnonnull 11, 3, 25), (25, .aload_n 0, 1, 26), (26, .aload_n 3, 1, 27), (27, .putfield 18, 3, 30), (30, .goto 8, 3, 33), (33, .aload_n 2, 1, 34), (34, .aload_n 3, 1, 35), (35, .putfield 36, 3, 38), (38, .aload_n 0, 1, 39), (39, .dup, 1, 40), (40, .getfield 7, 3, 43), (43, .iconst 1, 1, 44), (44, .iadd, 1, 45), (45, .putfield 7, 3, 48), (48, .aload_n 0, 1, 49), (49, .dup, 1, 50), (50, .getfield 33, 3, 53), (53, .iconst 1, 1, 54), (54, .iadd, 1, 55), (55, .putfield 33, 3, 58), (58, .return_, 1, 59)] := by unfold dtab; decide +kernel
theorem okJ4_linkLast : okY yJ4_linkLast 1 := by decide +kernel
set_option maxHeartbeats 4000000 in
theorem c_LLllS (l : Launch) (D : va_G) (h : PH) {a x n f z y : Nat} {md : Int32} {pz : Option Nat} (ha : h a = some (eo 3 [.int md, .int (nI n), .ref f, .ref z])) (hz : h z = some (eo 12 [.ref y, .null, va_rf pz]))  : Ct l D yJ4_linkLast cJ4_linkLast 4 none (rmC 2 43 1 3) [.ref a, .ref x] h (fun v9 h9 => ∃ q1, h q1 = none ∧ v9 = none ∧ h9 = pu (pu (pu h q1 (eo 12 [.ref x, va_rf none, va_rf (some z)])) z (eo 12 [.ref y, .ref q1, va_rf pz])) a (eo 3 [.int (md + (nI 1)), .int (nI (n + 1)), .ref f, .ref q1])) := by
  refine Ct.of (by decide) rfl (fun Γ X rr hmn => ?_)
  have X : Cx l D cJ4_linkLast RJ4 4 (rmC 2 43 1 3) Γ := X
  show J Γ h 0 0 0 [(0, .ref a), (1, .ref x)] []
  refine J_aload_n X (dt tJ4_linkLast 0 rfl) 0 rfl ?_
  refine g_J4_27_3 X (dt tJ4_linkLast 1 rfl) ha rfl ?_
  refine J_astore_n X (lv2 := [(2, .ref z), (0, .ref a), (1, .ref x)]) (dt tJ4_linkLast 2 rfl) rfl rfl rfl ?_
  refine n_J4_22 X (dt tJ4_linkLast 3 rfl) (Nat.le_of_ble_eq_true rfl) (Nat.le_of_ble_eq_true rfl) (fun q1 fq1 => ?_)
  refine J_dup X (dt tJ4_linkLast 4 rfl) rfl ?_
  refine J_aload_n X (dt tJ4_linkLast 5 rfl) 0 rfl ?_
  refine J_aload_n X (dt tJ4_linkLast 6 rfl) 2 rfl ?_
  refine J_null X (dt tJ4_linkLast 7 rfl) ?_
  refine J_callI (rest := [.ref q1]) X (dt tJ4_linkLast 8 rfl) (c_NDinit l D _ (q := q1) (x := x) (nx := none) (pv := some z) (pu_s _ _ _)) (lw_meth q644) q97 q642 q643 rfl okJ20_init rfl ⟨Nat.le_of_ble_eq_true rfl, Nat.le_of_ble_eq_true rfl⟩ rfl (Nat.le_of_ble_eq_true rfl) (Nat.le_of_ble_eq_true rfl) (Nat.le_of_ble_eq_true rfl) (fun v9 h9 hp9 => ?_)
  obtain ⟨rfl, e9⟩ := hp9
  rw [e9]
  refine J_heap (h2 := pu h q1 (eo 12 [.ref x, va_rf none, va_rf (some z)])) (pu_pu _ _ _ _) ?_
  show J Γ (pu h q1 (eo 12 [.ref x, va_rf none, va_rf (some z)])) 1 3 15 [(2, .ref z), (0, .ref a), (1, .ref x)] [.ref q1]
  refine J_astore_n X (lv2 := [(3, .ref q1), (2, .ref z), (0, .ref a), (1, .ref x)]) (dt tJ4_linkLast 9 rfl) rfl rfl rfl ?_
  refine J_aload_n X (dt tJ4_linkLast 10 rfl) 2 rfl ?_
  refine J_aload_n X (dt tJ4_linkLast 11 rfl) 0 rfl ?_
  refine p_J4_27_3 X (fs2 := [.int md, .int (nI n), .ref f, .ref q1]) (dt tJ4_linkLast 12 rfl) (pu_o (ne_f ha fq1) ha) rfl rfl rfl rfl ?_
  refine J_aload_n X (dt tJ4_linkLast 13 rfl) 1 rfl ?_
  refine J_ifnonnull X (some z) 33 (dt tJ4_linkLast 14 rfl) (by decide) (fun _ _ => ?_) (fun c9 => by cases c9)
  refine J_aload_n X (dt tJ4_linkLast 19 rfl) 1 rfl ?_
  refine J_aload_n X (dt tJ4_linkLast 20 rfl) 0 rfl ?_
  refine p_J4_36_12 X (fs2 := [.ref y, .ref q1, va_rf pz]) (dt tJ4_linkLast 21 rfl) (pu_o (ne_c hz ha (by decide)) (pu_o (ne_f hz fq1) hz)) rfl rfl rfl rfl ?_
  refine J_aload_n X (dt tJ4_linkLast 22 rfl) 2 rfl ?_
  refine J_dup X (dt tJ4_linkLast 23 rfl) rfl ?_
  refine g_J4_7_3 X (dt tJ4_linkLast 24 rfl) (pu_o (ne_c ha hz (by decide)) (pu_s _ _ _)) rfl ?_
  refine J_iconst X (nI 1) (dt tJ4_linkLast 25 rfl) (by decide) ?_
  refine J_iaddN X (dt tJ4_linkLast 26 rfl) ?_
  refine p_J4_7_3 X (fs2 := [.int md, .int (nI (n + 1)), .ref f, .ref q1]) (dt tJ4_linkLast 27 rfl) (pu_o (ne_c ha hz (by decide)) (pu_s _ _ _)) rfl rfl rfl rfl ?_
  refine J_heap (h2 := pu (pu (pu h q1 (eo 12 [.ref x, va_rf none, va_rf (some z)])) z (eo 12 [.ref y, .ref q1, va_rf pz])) a (eo 3 [.int md, .int (nI (n + 1)), .ref f, .ref q1])) (pu_dr1 (ne_c ha hz (by decide))) ?_
  refine J_aload_n X (dt tJ4_linkLast 28 rfl) 2 rfl ?_
  refine J_dup X (dt tJ4_linkLast 29 rfl) rfl ?_
  refine g_J4_33_3 X (dt tJ4_linkLast 30 rfl) (pu_s _ _ _) rfl ?_
  refine J_iconst X (nI 1) (dt tJ4_linkLast 31 rfl) (by decide) ?_
  refine J_iadd X (dt tJ4_linkLast 32 rfl) ?_
  refine p_J4_33_3 X (fs2 := [.int (md + (nI 1)), .int (nI (n + 1)), .ref f, .ref q1]) (dt tJ4_linkLast 33 rfl) (pu_s _ _ _) rfl rfl rfl rfl ?_
  refine J_heap (h2 := pu (pu (pu h q1 (eo 12 [.ref x, va_rf none, va_rf (some z)])) z (eo 12 [.ref y, .ref q1, va_rf pz])) a (eo 3 [.int (md + (nI 1)), .int (nI (n + 1)), .ref f, .ref q1])) (pu_pu _ _ _ _) ?_
  exact J_vret X rr (dt tJ4_linkLast 34 rfl) (Nat.le_of_ble_eq_true rfl) (Nat.le_of_ble_eq_true rfl) ⟨_, fq1, rfl, rfl⟩
set_option maxHeartbeats 4000000 in
theorem c_LLllE (l : Launch) (D : va_G) (h : PH) {a x : Nat} {md : Int32} (ha : h a = some (eo 3 [.int md, .int (nI 0), .null, .null]))  : Ct l D yJ4_linkLast cJ4_linkLast 4 none (rmC 2 43 1 3) [.ref a, .ref x] h (fun v9 h9 => ∃ q1, h q1 = none ∧ v9 = none ∧ h9 = pu (pu h q1 (eo 12 [.ref x, va_rf none, va_rf none])) a (eo 3 [.int (md + (nI 1)), .int (nI (0 + 1)), .ref q1, .ref q1])) := by
  refine Ct.of (by decide) rfl (fun Γ X rr hmn => ?_)
  have X : Cx l D cJ4_linkLast RJ4 4 (rmC 2 43 1 3) Γ := X
  show J Γ h 0 0 0 [(0, .ref a), (1, .ref x)] []
  refine J_aload_n X (dt tJ4_linkLast 0 rfl) 0 rfl ?_
  refine g_J4_27_3 X (dt tJ4_linkLast 1 rfl) ha rfl ?_
  refine J_astore_nN X (lv2 := [(2, .null), (0, .ref a), (1, .ref x)]) (dt tJ4_linkLast 2 rfl) rfl rfl rfl ?_
  refine n_J4_22 X (dt tJ4_linkLast 3 rfl) (Nat.le_of_ble_eq_true rfl) (Nat.le_of_ble_eq_true rfl) (fun q1 fq1 => ?_)
  refine J_dup X (dt tJ4_linkLast 4 rfl) rfl ?_
  refine J_aload_nN X (dt tJ4_linkLast 5 rfl) 0 rfl ?_
  refine J_aload_n X (dt tJ4_linkLast 6 rfl) 2 rfl ?_
  refine J_null X (dt tJ4_linkLast 7 rfl) ?_
  refine J_callI (rest := [.ref q1]) X (dt tJ4_linkLast 8 rfl) (c_NDinit l D _ (q := q1) (x := x) (nx := none) (pv := none) (pu_s _ _ _)) (lw_meth q644) q97 q642 q643 rfl okJ20_init rfl ⟨Nat.le_of_ble_eq_true rfl, Nat.le_of_ble_eq_true rfl⟩ rfl (Nat.le_of_ble_eq_true rfl) (Nat.le_of_ble_eq_true rfl) (Nat.le_of_ble_eq_true rfl) (fun v9 h9 hp9 => ?_)
  obtain ⟨rfl, e9⟩ := hp9
  rw [e9]
  refine J_heap (h2 := pu h q1 (eo 12 [.ref x, va_rf none, va_rf none])) (pu_pu _ _ _ _) ?_
  show J Γ (pu h q1 (eo 12 [.ref x, va_rf none, va_rf none])) 1 3 15 [(2, .null), (0, .ref a), (1, .ref x)] [.ref q1]
  refine J_astore_n X (lv2 := [(3, .ref q1), (2, .null), (0, .ref a), (1, .ref x)]) (dt tJ4_linkLast 9 rfl) rfl rfl rfl ?_
  refine J_aload_n X (dt tJ4_linkLast 10 rfl) 2 rfl ?_
  refine J_aload_n X (dt tJ4_linkLast 11 rfl) 0 rfl ?_
  refine p_J4_27_3 X (fs2 := [.int md, .int (nI 0), .null, .ref q1]) (dt tJ4_linkLast 12 rfl) (pu_o (ne_f ha fq1) ha) rfl rfl rfl rfl ?_
  refine J_aload_nN X (dt tJ4_linkLast 13 rfl) 1 rfl ?_
  refine J_ifnonnull X none 33 (dt tJ4_linkLast 14 rfl) (by decide) (fun _ c9 => by cases c9) (fun _ => ?_)
  refine J_aload_n X (dt tJ4_linkLast 15 rfl) 2 rfl ?_
  refine J_aload_n X (dt tJ4_linkLast 16 rfl) 0 rfl ?_
  refine p_J4_18_3 X (fs2 := [.int md, .int (nI 0), .ref q1, .ref q1]) (dt tJ4_linkLast 17 rfl) (pu_s _ _ _) rfl rfl rfl rfl ?_
  refine J_heap (h2 := pu (pu h q1 (eo 12 [.ref x, va_rf none, va_rf none])) a (eo 3 [.int md, .int (nI 0), .ref q1, .ref q1])) (pu_pu _ _ _ _) ?_
  refine J_goto X (tgt := 38) (dt tJ4_linkLast 18 rfl) (by decide) ?_
  refine J_aload_n X (dt tJ4_linkLast 22 rfl) 2 rfl ?_
  refine J_dup X (dt tJ4_linkLast 23 rfl) rfl ?_
  refine g_J4_7_3 X (dt tJ4_linkLast 24 rfl) (pu_s _ _ _) rfl ?_
  refine J_iconst X (nI 1) (dt tJ4_linkLast 25 rfl) (by decide) ?_
  refine J_iaddN X (dt tJ4_linkLast 26 rfl) ?_
  refine p_J4_7_3 X (fs2 := [.int md, .int (nI (0 + 1)), .ref q1, .ref q1]) (dt tJ4_linkLast 27 rfl) (pu_s _ _ _) rfl rfl rfl rfl ?_
  refine J_heap (h2 := pu (pu h q1 (eo 12 [.ref x, va_rf none, va_rf none])) a (eo 3 [.int md, .int (nI (0 + 1)), .ref q1, .ref q1])) (pu_pu _ _ _ _) ?_
  refine J_aload_n X (dt tJ4_linkLast 28 rfl) 2 rfl ?_
  refine J_dup X (dt tJ4_linkLast 29 rfl) rfl ?_
  refine g_J4_33_3 X (dt tJ4_linkLast 30 rfl) (pu_s _ _ _) rfl ?_
  refine J_iconst X (nI 1) (dt tJ4_linkLast 31 rfl) (by decide) ?_
  refine J_iadd X (dt tJ4_linkLast 32 rfl) ?_
  refine p_J4_33_3 X (fs2 := [.int (md + (nI 1)), .int (nI (0 + 1)), .ref q1, .ref q1]) (dt tJ4_linkLast 33 rfl) (pu_s _ _ _) rfl rfl rfl rfl ?_
  refine J_heap (h2 := pu (pu h q1 (eo 12 [.ref x, va_rf none, va_rf none])) a (eo 3 [.int (md + (nI 1)), .int (nI (0 + 1)), .ref q1, .ref q1])) (pu_pu _ _ _ _) ?_
  exact J_vret X rr (dt tJ4_linkLast 34 rfl) (Nat.le_of_ble_eq_true rfl) (Nat.le_of_ble_eq_true rfl) ⟨_, fq1, rfl, rfl⟩
abbrev cJ4_addLast : ByteArray := prog_52_method_14_code
def yJ4_addLast : MethodName := ⟨RJ4, "addLast", "(Ljava/lang/Object;)V"⟩
theorem tJ4_addLast : dtab cJ4_addLast [(0, .aload_n 0, 1, 1), (1, .aload_n 1, 1, 2), (2, .invokevirtual 57, 3, 5), (5, .return_, 1, 6)] := by unfold dtab; decide +kernel
theorem okJ4_addLast : okY yJ4_addLast 1 := by decide +kernel
set_option maxHeartbeats 4000000 in
theorem c_LLalS (l : Launch) (D : va_G) (h : PH) {a x n f z y : Nat} {md : Int32} {pz : Option Nat} (ha : h a = some (eo 3 [.int md, .int (nI n), .ref f, .ref z])) (hz : h z = some (eo 12 [.ref y, .null, va_rf pz]))  : Ct l D yJ4_addLast cJ4_addLast 2 none (rmC 3 66 1 3) [.ref a, .ref x] h (fun v9 h9 => ∃ q1, h q1 = none ∧ v9 = none ∧ h9 = pu (pu (pu h q1 (eo 12 [.ref x, va_rf none, va_rf (some z)])) z (eo 12 [.ref y, .ref q1, va_rf pz])) a (eo 3 [.int (md + (nI 1)), .int (nI (n + 1)), .ref f, .ref q1])) := by
  refine Ct.of (by decide) rfl (fun Γ X rr hmn => ?_)
  have X : Cx l D cJ4_addLast RJ4 2 (rmC 3 66 1 3) Γ := X
  show J Γ h 0 0 0 [(0, .ref a), (1, .ref x)] []
  refine J_aload_n X (dt tJ4_addLast 0 rfl) 0 rfl ?_
  refine J_aload_n X (dt tJ4_addLast 1 rfl) 1 rfl ?_
  refine J_callVR (rest := []) X (T := TJ4) (dt tJ4_addLast 2 rfl) (c_LLllS l D _ (a := a) (x := x) (n := n) (f := f) (z := z) (y := y) (md := md) (pz := pz) ha hz) (lw_V q1097 q1098 q1099 q75 q1100) okJ4_linkLast rfl (Or.inl ha) rfl ⟨Nat.le_of_ble_eq_true rfl, Nat.le_of_ble_eq_true rfl⟩ rfl (Nat.le_of_ble_eq_true rfl) (Nat.le_of_ble_eq_true rfl) (Nat.le_of_ble_eq_true rfl) (fun v9 h9 hp9 => ?_)
  obtain ⟨q1, fq1, rfl, e9⟩ := hp9
  rw [e9]
  show J Γ (pu (pu (pu h q1 (eo 12 [.ref x, va_rf none, va_rf (some z)])) z (eo 12 [.ref y, .ref q1, va_rf pz])) a (eo 3 [.int (md + (nI 1)), .int (nI (n + 1)), .ref f, .ref q1])) 1 3 5 [(0, .ref a), (1, .ref x)] []
  exact J_vret X rr (dt tJ4_addLast 3 rfl) (Nat.le_of_ble_eq_true rfl) (Nat.le_of_ble_eq_true rfl) ⟨_, fq1, rfl, rfl⟩
set_option maxHeartbeats 4000000 in
theorem c_LLalE (l : Launch) (D : va_G) (h : PH) {a x : Nat} {md : Int32} (ha : h a = some (eo 3 [.int md, .int (nI 0), .null, .null]))  : Ct l D yJ4_addLast cJ4_addLast 2 none (rmC 3 66 1 3) [.ref a, .ref x] h (fun v9 h9 => ∃ q1, h q1 = none ∧ v9 = none ∧ h9 = pu (pu h q1 (eo 12 [.ref x, va_rf none, va_rf none])) a (eo 3 [.int (md + (nI 1)), .int (nI (0 + 1)), .ref q1, .ref q1])) := by
  refine Ct.of (by decide) rfl (fun Γ X rr hmn => ?_)
  have X : Cx l D cJ4_addLast RJ4 2 (rmC 3 66 1 3) Γ := X
  show J Γ h 0 0 0 [(0, .ref a), (1, .ref x)] []
  refine J_aload_n X (dt tJ4_addLast 0 rfl) 0 rfl ?_
  refine J_aload_n X (dt tJ4_addLast 1 rfl) 1 rfl ?_
  refine J_callVR (rest := []) X (T := TJ4) (dt tJ4_addLast 2 rfl) (c_LLllE l D _ (a := a) (x := x) (md := md) ha) (lw_V q1097 q1098 q1099 q75 q1100) okJ4_linkLast rfl (Or.inl ha) rfl ⟨Nat.le_of_ble_eq_true rfl, Nat.le_of_ble_eq_true rfl⟩ rfl (Nat.le_of_ble_eq_true rfl) (Nat.le_of_ble_eq_true rfl) (Nat.le_of_ble_eq_true rfl) (fun v9 h9 hp9 => ?_)
  obtain ⟨q1, fq1, rfl, e9⟩ := hp9
  rw [e9]
  show J Γ (pu (pu h q1 (eo 12 [.ref x, va_rf none, va_rf none])) a (eo 3 [.int (md + (nI 1)), .int (nI (0 + 1)), .ref q1, .ref q1])) 1 3 5 [(0, .ref a), (1, .ref x)] []
  exact J_vret X rr (dt tJ4_addLast 3 rfl) (Nat.le_of_ble_eq_true rfl) (Nat.le_of_ble_eq_true rfl) ⟨_, fq1, rfl, rfl⟩
abbrev cJ4_linkFirst : ByteArray := prog_52_method_3_code
def yJ4_linkFirst : MethodName := ⟨RJ4, "linkFirst", "(Ljava/lang/Object;)V"⟩
theorem tJ4_linkFirst : dtab cJ4_linkFirst [(0, .aload_n 0, 1, 1), (1, .getfield 18, 3, 4), (4, .astore_n 2, 1, 5), (5, .new 22, 3, 8), (8, .dup, 1, 9), (9, .aconst_null, 1, 10), (10, .aload_n 1, 1, 11), (11, .aload_n 2, 1, 12), (12, .invokespecial 24, 3, 15), (15, .astore_n 3, 1, 16), (16, .aload_n 0, 1, 17), (17, .aload_n 3, 1, 18), (18, .putfield 18, 3, 21), (21, .aload_n 2, 1, 22), (22, .ifnonnull 11, 3, 25), (25, .aload_n 0, 1, 26), (26, .aload_n 3, 1, 27), (27, .putfield 27, 3, 30), (30, .goto 8, 3, 33), (33, .aload_n 2, 1, 34), (34, .aload_n 3, 1, 35), (35, .putfield 30, 3, 38), (38, .aload_n 0, 1, 39), (39, .dup, 1, 40), (40, .getfield 7, 3, 43), (43, .iconst 1, 1, 44), (44, .iadd, 1, 45), (45, .putfield 7, 3, 48), (48, .aload_n 0, 1, 49), (49, .dup, 1, 50), (50, .getfield 33, 3, 53), (53, .iconst 1, 1, 54), (54, .iadd, 1, 55), (55, .putfield 33, 3, 58), (58, .return_, 1, 59)] := by unfold dtab; decide +kernel
theorem okJ4_linkFirst : okY yJ4_linkFirst 1 := by decide +kernel
set_option maxHeartbeats 4000000 in
theorem c_LLlfS (l : Launch) (D : va_G) (h : PH) {a x n f z y : Nat} {md : Int32} {nf : Option Nat} (ha : h a = some (eo 3 [.int md, .int (nI n), .ref f, .ref z])) (hf : h f = some (eo 12 [.ref y, va_rf nf, .null]))  : Ct l D yJ4_linkFirst cJ4_linkFirst 4 none (rmC 2 43 1 3) [.ref a, .ref x] h (fun v9 h9 => ∃ q1, h q1 = none ∧ v9 = none ∧ h9 = pu (pu (pu h q1 (eo 12 [.ref x, va_rf (some f), va_rf none])) f (eo 12 [.ref y, va_rf nf, .ref q1])) a (eo 3 [.int (md + (nI 1)), .int (nI (n + 1)), .ref q1, .ref z])) := by
  refine Ct.of (by decide) rfl (fun Γ X rr hmn => ?_)
  have X : Cx l D cJ4_linkFirst RJ4 4 (rmC 2 43 1 3) Γ := X
  show J Γ h 0 0 0 [(0, .ref a), (1, .ref x)] []
  refine J_aload_n X (dt tJ4_linkFirst 0 rfl) 0 rfl ?_
  refine g_J4_18_3 X (dt tJ4_linkFirst 1 rfl) ha rfl ?_
  refine J_astore_n X (lv2 := [(2, .ref f), (0, .ref a), (1, .ref x)]) (dt tJ4_linkFirst 2 rfl) rfl rfl rfl ?_
  refine n_J4_22 X (dt tJ4_linkFirst 3 rfl) (Nat.le_of_ble_eq_true rfl) (Nat.le_of_ble_eq_true rfl) (fun q1 fq1 => ?_)
  refine J_dup X (dt tJ4_linkFirst 4 rfl) rfl ?_
  refine J_null X (dt tJ4_linkFirst 5 rfl) ?_
  refine J_aload_n X (dt tJ4_linkFirst 6 rfl) 2 rfl ?_
  refine J_aload_n X (dt tJ4_linkFirst 7 rfl) 0 rfl ?_
  refine J_callI (rest := [.ref q1]) X (dt tJ4_linkFirst 8 rfl) (c_NDinit l D _ (q := q1) (x := x) (nx := some f) (pv := none) (pu_s _ _ _)) (lw_meth q644) q97 q642 q643 rfl okJ20_init rfl ⟨Nat.le_of_ble_eq_true rfl, Nat.le_of_ble_eq_true rfl⟩ rfl (Nat.le_of_ble_eq_true rfl) (Nat.le_of_ble_eq_true rfl) (Nat.le_of_ble_eq_true rfl) (fun v9 h9 hp9 => ?_)
  obtain ⟨rfl, e9⟩ := hp9
  rw [e9]
  refine J_heap (h2 := pu h q1 (eo 12 [.ref x, va_rf (some f), va_rf none])) (pu_pu _ _ _ _) ?_
  show J Γ (pu h q1 (eo 12 [.ref x, va_rf (some f), va_rf none])) 1 3 15 [(2, .ref f), (0, .ref a), (1, .ref x)] [.ref q1]
  refine J_astore_n X (lv2 := [(3, .ref q1), (2, .ref f), (0, .ref a), (1, .ref x)]) (dt tJ4_linkFirst 9 rfl) rfl rfl rfl ?_
  refine J_aload_n X (dt tJ4_linkFirst 10 rfl) 2 rfl ?_
  refine J_aload_n X (dt tJ4_linkFirst 11 rfl) 0 rfl ?_
  refine p_J4_18_3 X (fs2 := [.int md, .int (nI n), .ref q1, .ref z]) (dt tJ4_linkFirst 12 rfl) (pu_o (ne_f ha fq1) ha) rfl rfl rfl rfl ?_
  refine J_aload_n X (dt tJ4_linkFirst 13 rfl) 1 rfl ?_
  refine J_ifnonnull X (some f) 33 (dt tJ4_linkFirst 14 rfl) (by decide) (fun _ _ => ?_) (fun c9 => by cases c9)
  refine J_aload_n X (dt tJ4_linkFirst 19 rfl) 1 rfl ?_
  refine J_aload_n X (dt tJ4_linkFirst 20 rfl) 0 rfl ?_
  refine p_J4_30_12 X (fs2 := [.ref y, va_rf nf, .ref q1]) (dt tJ4_linkFirst 21 rfl) (pu_o (ne_c hf ha (by decide)) (pu_o (ne_f hf fq1) hf)) rfl rfl rfl rfl ?_
  refine J_aload_n X (dt tJ4_linkFirst 22 rfl) 2 rfl ?_
  refine J_dup X (dt tJ4_linkFirst 23 rfl) rfl ?_
  refine g_J4_7_3 X (dt tJ4_linkFirst 24 rfl) (pu_o (ne_c ha hf (by decide)) (pu_s _ _ _)) rfl ?_
  refine J_iconst X (nI 1) (dt tJ4_linkFirst 25 rfl) (by decide) ?_
  refine J_iaddN X (dt tJ4_linkFirst 26 rfl) ?_
  refine p_J4_7_3 X (fs2 := [.int md, .int (nI (n + 1)), .ref q1, .ref z]) (dt tJ4_linkFirst 27 rfl) (pu_o (ne_c ha hf (by decide)) (pu_s _ _ _)) rfl rfl rfl rfl ?_
  refine J_heap (h2 := pu (pu (pu h q1 (eo 12 [.ref x, va_rf (some f), va_rf none])) f (eo 12 [.ref y, va_rf nf, .ref q1])) a (eo 3 [.int md, .int (nI (n + 1)), .ref q1, .ref z])) (pu_dr1 (ne_c ha hf (by decide))) ?_
  refine J_aload_n X (dt tJ4_linkFirst 28 rfl) 2 rfl ?_
  refine J_dup X (dt tJ4_linkFirst 29 rfl) rfl ?_
  refine g_J4_33_3 X (dt tJ4_linkFirst 30 rfl) (pu_s _ _ _) rfl ?_
  refine J_iconst X (nI 1) (dt tJ4_linkFirst 31 rfl) (by decide) ?_
  refine J_iadd X (dt tJ4_linkFirst 32 rfl) ?_
  refine p_J4_33_3 X (fs2 := [.int (md + (nI 1)), .int (nI (n + 1)), .ref q1, .ref z]) (dt tJ4_linkFirst 33 rfl) (pu_s _ _ _) rfl rfl rfl rfl ?_
  refine J_heap (h2 := pu (pu (pu h q1 (eo 12 [.ref x, va_rf (some f), va_rf none])) f (eo 12 [.ref y, va_rf nf, .ref q1])) a (eo 3 [.int (md + (nI 1)), .int (nI (n + 1)), .ref q1, .ref z])) (pu_pu _ _ _ _) ?_
  exact J_vret X rr (dt tJ4_linkFirst 34 rfl) (Nat.le_of_ble_eq_true rfl) (Nat.le_of_ble_eq_true rfl) ⟨_, fq1, rfl, rfl⟩
set_option maxHeartbeats 4000000 in
theorem c_LLlfE (l : Launch) (D : va_G) (h : PH) {a x : Nat} {md : Int32} (ha : h a = some (eo 3 [.int md, .int (nI 0), .null, .null]))  : Ct l D yJ4_linkFirst cJ4_linkFirst 4 none (rmC 2 43 1 3) [.ref a, .ref x] h (fun v9 h9 => ∃ q1, h q1 = none ∧ v9 = none ∧ h9 = pu (pu h q1 (eo 12 [.ref x, va_rf none, va_rf none])) a (eo 3 [.int (md + (nI 1)), .int (nI (0 + 1)), .ref q1, .ref q1])) := by
  refine Ct.of (by decide) rfl (fun Γ X rr hmn => ?_)
  have X : Cx l D cJ4_linkFirst RJ4 4 (rmC 2 43 1 3) Γ := X
  show J Γ h 0 0 0 [(0, .ref a), (1, .ref x)] []
  refine J_aload_n X (dt tJ4_linkFirst 0 rfl) 0 rfl ?_
  refine g_J4_18_3 X (dt tJ4_linkFirst 1 rfl) ha rfl ?_
  refine J_astore_nN X (lv2 := [(2, .null), (0, .ref a), (1, .ref x)]) (dt tJ4_linkFirst 2 rfl) rfl rfl rfl ?_
  refine n_J4_22 X (dt tJ4_linkFirst 3 rfl) (Nat.le_of_ble_eq_true rfl) (Nat.le_of_ble_eq_true rfl) (fun q1 fq1 => ?_)
  refine J_dup X (dt tJ4_linkFirst 4 rfl) rfl ?_
  refine J_null X (dt tJ4_linkFirst 5 rfl) ?_
  refine J_aload_n X (dt tJ4_linkFirst 6 rfl) 2 rfl ?_
  refine J_aload_nN X (dt tJ4_linkFirst 7 rfl) 0 rfl ?_
  refine J_callI (rest := [.ref q1]) X (dt tJ4_linkFirst 8 rfl) (c_NDinit l D _ (q := q1) (x := x) (nx := none) (pv := none) (pu_s _ _ _)) (lw_meth q644) q97 q642 q643 rfl okJ20_init rfl ⟨Nat.le_of_ble_eq_true rfl, Nat.le_of_ble_eq_true rfl⟩ rfl (Nat.le_of_ble_eq_true rfl) (Nat.le_of_ble_eq_true rfl) (Nat.le_of_ble_eq_true rfl) (fun v9 h9 hp9 => ?_)
  obtain ⟨rfl, e9⟩ := hp9
  rw [e9]
  refine J_heap (h2 := pu h q1 (eo 12 [.ref x, va_rf none, va_rf none])) (pu_pu _ _ _ _) ?_
  show J Γ (pu h q1 (eo 12 [.ref x, va_rf none, va_rf none])) 1 3 15 [(2, .null), (0, .ref a), (1, .ref x)] [.ref q1]
  refine J_astore_n X (lv2 := [(3, .ref q1), (2, .null), (0, .ref a), (1, .ref x)]) (dt tJ4_linkFirst 9 rfl) rfl rfl rfl ?_
  refine J_aload_n X (dt tJ4_linkFirst 10 rfl) 2 rfl ?_
  refine J_aload_n X (dt tJ4_linkFirst 11 rfl) 0 rfl ?_
  refine p_J4_18_3 X (fs2 := [.int md, .int (nI 0), .ref q1, .null]) (dt tJ4_linkFirst 12 rfl) (pu_o (ne_f ha fq1) ha) rfl rfl rfl rfl ?_
  refine J_aload_nN X (dt tJ4_linkFirst 13 rfl) 1 rfl ?_
  refine J_ifnonnull X none 33 (dt tJ4_linkFirst 14 rfl) (by decide) (fun _ c9 => by cases c9) (fun _ => ?_)
  refine J_aload_n X (dt tJ4_linkFirst 15 rfl) 2 rfl ?_
  refine J_aload_n X (dt tJ4_linkFirst 16 rfl) 0 rfl ?_
  refine p_J4_27_3 X (fs2 := [.int md, .int (nI 0), .ref q1, .ref q1]) (dt tJ4_linkFirst 17 rfl) (pu_s _ _ _) rfl rfl rfl rfl ?_
  refine J_heap (h2 := pu (pu h q1 (eo 12 [.ref x, va_rf none, va_rf none])) a (eo 3 [.int md, .int (nI 0), .ref q1, .ref q1])) (pu_pu _ _ _ _) ?_
  refine J_goto X (tgt := 38) (dt tJ4_linkFirst 18 rfl) (by decide) ?_
  refine J_aload_n X (dt tJ4_linkFirst 22 rfl) 2 rfl ?_
  refine J_dup X (dt tJ4_linkFirst 23 rfl) rfl ?_
  refine g_J4_7_3 X (dt tJ4_linkFirst 24 rfl) (pu_s _ _ _) rfl ?_
  refine J_iconst X (nI 1) (dt tJ4_linkFirst 25 rfl) (by decide) ?_
  refine J_iaddN X (dt tJ4_linkFirst 26 rfl) ?_
  refine p_J4_7_3 X (fs2 := [.int md, .int (nI (0 + 1)), .ref q1, .ref q1]) (dt tJ4_linkFirst 27 rfl) (pu_s _ _ _) rfl rfl rfl rfl ?_
  refine J_heap (h2 := pu (pu h q1 (eo 12 [.ref x, va_rf none, va_rf none])) a (eo 3 [.int md, .int (nI (0 + 1)), .ref q1, .ref q1])) (pu_pu _ _ _ _) ?_
  refine J_aload_n X (dt tJ4_linkFirst 28 rfl) 2 rfl ?_
  refine J_dup X (dt tJ4_linkFirst 29 rfl) rfl ?_
  refine g_J4_33_3 X (dt tJ4_linkFirst 30 rfl) (pu_s _ _ _) rfl ?_
  refine J_iconst X (nI 1) (dt tJ4_linkFirst 31 rfl) (by decide) ?_
  refine J_iadd X (dt tJ4_linkFirst 32 rfl) ?_
  refine p_J4_33_3 X (fs2 := [.int (md + (nI 1)), .int (nI (0 + 1)), .ref q1, .ref q1]) (dt tJ4_linkFirst 33 rfl) (pu_s _ _ _) rfl rfl rfl rfl ?_
  refine J_heap (h2 := pu (pu h q1 (eo 12 [.ref x, va_rf none, va_rf none])) a (eo 3 [.int (md + (nI 1)), .int (nI (0 + 1)), .ref q1, .ref q1])) (pu_pu _ _ _ _) ?_
  exact J_vret X rr (dt tJ4_linkFirst 34 rfl) (Nat.le_of_ble_eq_true rfl) (Nat.le_of_ble_eq_true rfl) ⟨_, fq1, rfl, rfl⟩
abbrev cJ4_addFirst : ByteArray := prog_52_method_13_code
def yJ4_addFirst : MethodName := ⟨RJ4, "addFirst", "(Ljava/lang/Object;)V"⟩
theorem tJ4_addFirst : dtab cJ4_addFirst [(0, .aload_n 0, 1, 1), (1, .aload_n 1, 1, 2), (2, .invokevirtual 53, 3, 5), (5, .return_, 1, 6)] := by unfold dtab; decide +kernel
theorem okJ4_addFirst : okY yJ4_addFirst 1 := by decide +kernel
set_option maxHeartbeats 4000000 in
theorem c_LLafS (l : Launch) (D : va_G) (h : PH) {a x n f z y : Nat} {md : Int32} {nf : Option Nat} (ha : h a = some (eo 3 [.int md, .int (nI n), .ref f, .ref z])) (hf : h f = some (eo 12 [.ref y, va_rf nf, .null]))  : Ct l D yJ4_addFirst cJ4_addFirst 2 none (rmC 3 66 1 3) [.ref a, .ref x] h (fun v9 h9 => ∃ q1, h q1 = none ∧ v9 = none ∧ h9 = pu (pu (pu h q1 (eo 12 [.ref x, va_rf (some f), va_rf none])) f (eo 12 [.ref y, va_rf nf, .ref q1])) a (eo 3 [.int (md + (nI 1)), .int (nI (n + 1)), .ref q1, .ref z])) := by
  refine Ct.of (by decide) rfl (fun Γ X rr hmn => ?_)
  have X : Cx l D cJ4_addFirst RJ4 2 (rmC 3 66 1 3) Γ := X
  show J Γ h 0 0 0 [(0, .ref a), (1, .ref x)] []
  refine J_aload_n X (dt tJ4_addFirst 0 rfl) 0 rfl ?_
  refine J_aload_n X (dt tJ4_addFirst 1 rfl) 1 rfl ?_
  refine J_callVR (rest := []) X (T := TJ4) (dt tJ4_addFirst 2 rfl) (c_LLlfS l D _ (a := a) (x := x) (n := n) (f := f) (z := z) (y := y) (md := md) (nf := nf) ha hf) (lw_V q636 q638 qs8 q75 q639) okJ4_linkFirst rfl (Or.inl ha) rfl ⟨Nat.le_of_ble_eq_true rfl, Nat.le_of_ble_eq_true rfl⟩ rfl (Nat.le_of_ble_eq_true rfl) (Nat.le_of_ble_eq_true rfl) (Nat.le_of_ble_eq_true rfl) (fun v9 h9 hp9 => ?_)
  obtain ⟨q1, fq1, rfl, e9⟩ := hp9
  rw [e9]
  show J Γ (pu (pu (pu h q1 (eo 12 [.ref x, va_rf (some f), va_rf none])) f (eo 12 [.ref y, va_rf nf, .ref q1])) a (eo 3 [.int (md + (nI 1)), .int (nI (n + 1)), .ref q1, .ref z])) 1 3 5 [(0, .ref a), (1, .ref x)] []
  exact J_vret X rr (dt tJ4_addFirst 3 rfl) (Nat.le_of_ble_eq_true rfl) (Nat.le_of_ble_eq_true rfl) ⟨_, fq1, rfl, rfl⟩
set_option maxHeartbeats 4000000 in
theorem c_LLafE (l : Launch) (D : va_G) (h : PH) {a x : Nat} {md : Int32} (ha : h a = some (eo 3 [.int md, .int (nI 0), .null, .null]))  : Ct l D yJ4_addFirst cJ4_addFirst 2 none (rmC 3 66 1 3) [.ref a, .ref x] h (fun v9 h9 => ∃ q1, h q1 = none ∧ v9 = none ∧ h9 = pu (pu h q1 (eo 12 [.ref x, va_rf none, va_rf none])) a (eo 3 [.int (md + (nI 1)), .int (nI (0 + 1)), .ref q1, .ref q1])) := by
  refine Ct.of (by decide) rfl (fun Γ X rr hmn => ?_)
  have X : Cx l D cJ4_addFirst RJ4 2 (rmC 3 66 1 3) Γ := X
  show J Γ h 0 0 0 [(0, .ref a), (1, .ref x)] []
  refine J_aload_n X (dt tJ4_addFirst 0 rfl) 0 rfl ?_
  refine J_aload_n X (dt tJ4_addFirst 1 rfl) 1 rfl ?_
  refine J_callVR (rest := []) X (T := TJ4) (dt tJ4_addFirst 2 rfl) (c_LLlfE l D _ (a := a) (x := x) (md := md) ha) (lw_V q636 q638 qs8 q75 q639) okJ4_linkFirst rfl (Or.inl ha) rfl ⟨Nat.le_of_ble_eq_true rfl, Nat.le_of_ble_eq_true rfl⟩ rfl (Nat.le_of_ble_eq_true rfl) (Nat.le_of_ble_eq_true rfl) (Nat.le_of_ble_eq_true rfl) (fun v9 h9 hp9 => ?_)
  obtain ⟨q1, fq1, rfl, e9⟩ := hp9
  rw [e9]
  show J Γ (pu (pu h q1 (eo 12 [.ref x, va_rf none, va_rf none])) a (eo 3 [.int (md + (nI 1)), .int (nI (0 + 1)), .ref q1, .ref q1])) 1 3 5 [(0, .ref a), (1, .ref x)] []
  exact J_vret X rr (dt tJ4_addFirst 3 rfl) (Nat.le_of_ble_eq_true rfl) (Nat.le_of_ble_eq_true rfl) ⟨_, fq1, rfl, rfl⟩
abbrev cJ4_size : ByteArray := prog_52_method_16_code
def yJ4_size : MethodName := ⟨RJ4, "size", "()I"⟩
theorem tJ4_size : dtab cJ4_size [(0, .aload_n 0, 1, 1), (1, .getfield 7, 3, 4), (4, .ireturn, 1, 5)] := by unfold dtab; decide +kernel
theorem okJ4_size : okY yJ4_size 0 := by decide +kernel
set_option maxHeartbeats 4000000 in
theorem c_LLsize (l : Launch) (D : va_G) (h : PH) {a n : Nat} {md : Int32} {f z : Option Nat} (ha : h a = some (eo 3 [.int md, .int (nI n), va_rf f, va_rf z]))  : Ct l D yJ4_size cJ4_size 1 (some .int) (rmC 0 0 0 0) [.ref a] h (PS (h) (some (.int (nI n)))) := by
  refine Ct.of (by decide) rfl (fun Γ X rr hmn => ?_)
  have X : Cx l D cJ4_size RJ4 1 (rmC 0 0 0 0) Γ := X
  show J Γ h 0 0 0 [(0, .ref a)] []
  refine J_aload_n X (dt tJ4_size 0 rfl) 0 rfl ?_
  refine g_J4_7_3 X (dt tJ4_size 1 rfl) ha rfl ?_
  exact J_iret X rr (dt tJ4_size 2 rfl) (Nat.le_of_ble_eq_true rfl) (Nat.le_of_ble_eq_true rfl) ⟨rfl, rfl⟩
abbrev cJ0_isEmpty : ByteArray := prog_38_method_4_code
def yJ0_isEmpty : MethodName := ⟨RJ0, "isEmpty", "()Z"⟩
theorem tJ0_isEmpty : dtab cJ0_isEmpty [(0, .aload_n 0, 1, 1), (1, .invokevirtual 7, 3, 4), (4, .ifCond .ne 7, 3, 7), (7, .iconst 1, 1, 8), (8, .goto 4, 3, 11), (11, .iconst 0, 1, 12), (12, .ireturn, 1, 13)] := by unfold dtab; decide +kernel
theorem okJ0_isEmpty : okY yJ0_isEmpty 0 := by decide +kernel
set_option maxHeartbeats 4000000 in
theorem c_LLisE (l : Launch) (D : va_G) (h : PH) {a n : Nat} {md : Int32} {f z : Option Nat} (ha : h a = some (eo 3 [.int md, .int (nI n), va_rf f, va_rf z]))  : Ct l D yJ0_isEmpty cJ0_isEmpty 1 (some .boolean) (rmC 1 20 0 0) [.ref a] h (PS h (some (.int (if nI n = 0 then nI 1 else nI 0)))) := by
  refine Ct.of (by decide) rfl (fun Γ X rr hmn => ?_)
  have X : Cx l D cJ0_isEmpty RJ0 1 (rmC 1 20 0 0) Γ := X
  show J Γ h 0 0 0 [(0, .ref a)] []
  refine J_aload_n X (dt tJ0_isEmpty 0 rfl) 0 rfl ?_
  refine J_callA (na := 0) (rest := []) X (T := TJ4) (C := RJ4) (x := ⟨"java/util/AbstractCollection", "size", "()I"⟩) (owner := "java/util/AbstractCollection") (dt tJ0_isEmpty 1 rfl) (c_LLsize l D _ (a := a) (n := n) (md := md) (f := f) (z := z) ha) (lw_U q597 q599 q609 q610 q75 q611) q598 (by decide) rfl (Or.inl ha) rfl ⟨Nat.le_of_ble_eq_true rfl, Nat.le_of_ble_eq_true rfl⟩ rfl (Nat.le_of_ble_eq_true rfl) (Nat.le_of_ble_eq_true rfl) (Nat.le_of_ble_eq_true rfl) (fun v9 h9 hp9 => ?_)
  obtain ⟨rfl, e9⟩ := hp9
  rw [e9]
  show J Γ h 0 0 4 [(0, .ref a)] [.int (nI n)]
  have kj3 : ∀ v2 : Int32, v2 = (if (nI n) = 0 then nI 1 else nI 0) → J Γ h 0 0 12 [(0, .ref a)] [.int v2] := by
    intro v2 ev2
    exact J_zret X rr (dt tJ0_isEmpty 6 rfl) (Nat.le_of_ble_eq_true rfl) (Nat.le_of_ble_eq_true rfl) (isB.nar (by rw [ev2]; exact isB_ite isB_1 isB_0)) ⟨congrArg (fun z => some (Value.int z)) ev2, rfl⟩
  refine J_if_ne X 11 (dt tJ0_isEmpty 2 rfl) (by decide) (fun c1 => ?_) (fun c1 => ?_)
  · refine J_iconst X (nI 0) (dt tJ0_isEmpty 5 rfl) (by decide) ?_
    exact kj3 _ (if_neg c1).symm
  · refine J_iconst X (nI 1) (dt tJ0_isEmpty 3 rfl) (by decide) ?_
    refine J_goto X (tgt := 12) (dt tJ0_isEmpty 4 rfl) (by decide) ?_
    exact kj3 _ (if_pos c1).symm
abbrev cJ4_getFirst : ByteArray := prog_52_method_9_code
def yJ4_getFirst : MethodName := ⟨RJ4, "getFirst", "()Ljava/lang/Object;"⟩
theorem tJ4_getFirst : dtab cJ4_getFirst [(0, .aload_n 0, 1, 1), (1, .getfield 18, 3, 4), (4, .astore_n 1, 1, 5), (5, .aload_n 1, 1, 6), (6, .ifnonnull 11, 3, 9), (9, .new 43, 3, 12), (12, .dup, 1, 13), (13, .invokespecial 45, 3, 16), (16, .athrow, 1, 17), (17, .aload_n 1, 1, 18), (18, .getfield 39, 3, 21), (21, .areturn, 1, 22)] := by unfold dtab; decide +kernel
theorem okJ4_getFirst : okY yJ4_getFirst 0 := by decide +kernel
set_option maxHeartbeats 4000000 in
theorem c_LLgf (l : Launch) (D : va_G) (h : PH) {a n f y : Nat} {md : Int32} {z nf pf : Option Nat} (ha : h a = some (eo 3 [.int md, .int (nI n), .ref f, va_rf z])) (hf : h f = some (eo 12 [.ref y, va_rf nf, va_rf pf]))  : Ct l D yJ4_getFirst cJ4_getFirst 2 (some (.object "java/lang/Object")) (rmC 0 0 0 0) [.ref a] h (PS (h) (some (.ref y))) := by
  refine Ct.of (by decide) rfl (fun Γ X rr hmn => ?_)
  have X : Cx l D cJ4_getFirst RJ4 2 (rmC 0 0 0 0) Γ := X
  show J Γ h 0 0 0 [(0, .ref a)] []
  refine J_aload_n X (dt tJ4_getFirst 0 rfl) 0 rfl ?_
  refine g_J4_18_3 X (dt tJ4_getFirst 1 rfl) ha rfl ?_
  refine J_astore_n X (lv2 := [(1, .ref f), (0, .ref a)]) (dt tJ4_getFirst 2 rfl) rfl rfl rfl ?_
  refine J_aload_n X (dt tJ4_getFirst 3 rfl) 0 rfl ?_
  refine J_ifnonnull X (some f) 17 (dt tJ4_getFirst 4 rfl) (by decide) (fun _ _ => ?_) (fun c9 => by cases c9)
  refine J_aload_n X (dt tJ4_getFirst 9 rfl) 0 rfl ?_
  refine g_J4_39_12 X (dt tJ4_getFirst 10 rfl) hf rfl ?_
  exact J_aret X rr (dt tJ4_getFirst 11 rfl) (Nat.le_of_ble_eq_true rfl) (Nat.le_of_ble_eq_true rfl) (Or.inl ⟨_, rfl⟩) (Or.inr ⟨_, rfl⟩) ⟨rfl, rfl⟩
abbrev cJ4_getLast : ByteArray := prog_52_method_10_code
def yJ4_getLast : MethodName := ⟨RJ4, "getLast", "()Ljava/lang/Object;"⟩
theorem tJ4_getLast : dtab cJ4_getLast [(0, .aload_n 0, 1, 1), (1, .getfield 27, 3, 4), (4, .astore_n 1, 1, 5), (5, .aload_n 1, 1, 6), (6, .ifnonnull 11, 3, 9), (9, .new 43, 3, 12), (12, .dup, 1, 13), (13, .invokespecial 45, 3, 16), (16, .athrow, 1, 17), (17, .aload_n 1, 1, 18), (18, .getfield 39, 3, 21), (21, .areturn, 1, 22)] := by unfold dtab; decide +kernel
theorem okJ4_getLast : okY yJ4_getLast 0 := by decide +kernel
set_option maxHeartbeats 4000000 in
theorem c_LLgl (l : Launch) (D : va_G) (h : PH) {a n z y : Nat} {md : Int32} {f nz pz : Option Nat} (ha : h a = some (eo 3 [.int md, .int (nI n), va_rf f, .ref z])) (hz : h z = some (eo 12 [.ref y, va_rf nz, va_rf pz]))  : Ct l D yJ4_getLast cJ4_getLast 2 (some (.object "java/lang/Object")) (rmC 0 0 0 0) [.ref a] h (PS (h) (some (.ref y))) := by
  refine Ct.of (by decide) rfl (fun Γ X rr hmn => ?_)
  have X : Cx l D cJ4_getLast RJ4 2 (rmC 0 0 0 0) Γ := X
  show J Γ h 0 0 0 [(0, .ref a)] []
  refine J_aload_n X (dt tJ4_getLast 0 rfl) 0 rfl ?_
  refine g_J4_27_3 X (dt tJ4_getLast 1 rfl) ha rfl ?_
  refine J_astore_n X (lv2 := [(1, .ref z), (0, .ref a)]) (dt tJ4_getLast 2 rfl) rfl rfl rfl ?_
  refine J_aload_n X (dt tJ4_getLast 3 rfl) 0 rfl ?_
  refine J_ifnonnull X (some z) 17 (dt tJ4_getLast 4 rfl) (by decide) (fun _ _ => ?_) (fun c9 => by cases c9)
  refine J_aload_n X (dt tJ4_getLast 9 rfl) 0 rfl ?_
  refine g_J4_39_12 X (dt tJ4_getLast 10 rfl) hz rfl ?_
  exact J_aret X rr (dt tJ4_getLast 11 rfl) (Nat.le_of_ble_eq_true rfl) (Nat.le_of_ble_eq_true rfl) (Or.inl ⟨_, rfl⟩) (Or.inr ⟨_, rfl⟩) ⟨rfl, rfl⟩
abbrev cJ4_unlinkLast : ByteArray := prog_52_method_7_code
def yJ4_unlinkLast : MethodName := ⟨RJ4, "unlinkLast", "(Ljava/util/LinkedList$Node;)Ljava/lang/Object;"⟩
theorem tJ4_unlinkLast : dtab cJ4_unlinkLast [(0, .aload_n 1, 1, 1), (1, .getfield 39, 3, 4), (4, .astore_n 2, 1, 5), (5, .aload_n 1, 1, 6), (6, .getfield 30, 3, 9), (9, .astore_n 3, 1, 10), (10, .aload_n 1, 1, 11), (11, .aconst_null, 1, 12), (12, .putfield 39, 3, 15), (15, .aload_n 1, 1, 16), (16, .aconst_null, 1, 17), (17, .putfield 30, 3, 20), (20, .aload_n 0, 1, 21), (21, .aload_n 3, 1, 22), (22, .putfield 27, 3, 25), (25, .aload_n 3, 1, 26), (26, .ifnonnull 11, 3, 29), (29, .aload_n 0, 1, 30), (30, .aconst_null, 1, 31), (31, .putfield 18, 3, 34), (34, .goto 8, 3, 37), (37, .aload_n 3, 1, 38), (38, .aconst_null, 1, 39), (39, .putfield 36, 3, 42), (42, .aload_n 0, 1, 43), (43, .dup, 1, 44), (44, .getfield 7, 3, 47), (47, .iconst 1, 1, 48), (48, .isub, 1, 49), (49, .putfield 7, 3, 52), (52, .aload_n 0, 1, 53), (53, .dup, 1, 54), (54, .getfield 33, 3, 57), (57, .iconst 1, 1, 58), (58, .iadd, 1, 59), (59, .putfield 33, 3, 62), (62, .aload_n 2, 1, 63), (63, .areturn, 1, 64)] := by unfold dtab; decide +kernel
theorem okJ4_unlinkLast : okY yJ4_unlinkLast 1 := by decide +kernel
set_option maxHeartbeats 4000000 in
theorem c_LLul (l : Launch) (D : va_G) (h : PH) {a n z y p x : Nat} {md : Int32} {f pp : Option Nat} (ha : h a = some (eo 3 [.int md, .int (nI n), va_rf f, .ref z])) (hz : h z = some (eo 12 [.ref y, .null, .ref p])) (hp : h p = some (eo 12 [.ref x, .ref z, va_rf pp])) (hn : 1 ≤ n) (hpz : p ≠ z) : Ct l D yJ4_unlinkLast cJ4_unlinkLast 4 (some (.object "java/lang/Object")) (rmC 0 0 0 0) [.ref a, .ref z] h (PS (pu (pu (pu h z (eo 12 [.null, .null, .null])) p (eo 12 [.ref x, .null, va_rf pp])) a (eo 3 [.int (md + (nI 1)), .int (nI (n - 1)), va_rf f, .ref p])) (some (.ref y))) := by
  refine Ct.of (by decide) rfl (fun Γ X rr hmn => ?_)
  have X : Cx l D cJ4_unlinkLast RJ4 4 (rmC 0 0 0 0) Γ := X
  show J Γ h 0 0 0 [(0, .ref a), (1, .ref z)] []
  refine J_aload_n X (dt tJ4_unlinkLast 0 rfl) 1 rfl ?_
  refine g_J4_39_12 X (dt tJ4_unlinkLast 1 rfl) hz rfl ?_
  refine J_astore_n X (lv2 := [(2, .ref y), (0, .ref a), (1, .ref z)]) (dt tJ4_unlinkLast 2 rfl) rfl rfl rfl ?_
  refine J_aload_n X (dt tJ4_unlinkLast 3 rfl) 2 rfl ?_
  refine g_J4_30_12 X (dt tJ4_unlinkLast 4 rfl) hz rfl ?_
  refine J_astore_n X (lv2 := [(3, .ref p), (2, .ref y), (0, .ref a), (1, .ref z)]) (dt tJ4_unlinkLast 5 rfl) rfl rfl rfl ?_
  refine J_aload_n X (dt tJ4_unlinkLast 6 rfl) 3 rfl ?_
  refine J_null X (dt tJ4_unlinkLast 7 rfl) ?_
  refine p_J4_39_12 X (fs2 := [.null, .null, .ref p]) (dt tJ4_unlinkLast 8 rfl) hz rfl rfl rfl rfl ?_
  refine J_aload_n X (dt tJ4_unlinkLast 9 rfl) 3 rfl ?_
  refine J_null X (dt tJ4_unlinkLast 10 rfl) ?_
  refine p_J4_30_12 X (fs2 := [.null, .null, .null]) (dt tJ4_unlinkLast 11 rfl) (pu_s _ _ _) rfl rfl rfl rfl ?_
  refine J_heap (h2 := pu h z (eo 12 [.null, .null, .null])) (pu_pu _ _ _ _) ?_
  refine J_aload_n X (dt tJ4_unlinkLast 12 rfl) 2 rfl ?_
  refine J_aload_n X (dt tJ4_unlinkLast 13 rfl) 0 rfl ?_
  refine p_J4_27_3 X (fs2 := [.int md, .int (nI n), va_rf f, .ref p]) (dt tJ4_unlinkLast 14 rfl) (pu_o (ne_c ha hz (by decide)) ha) rfl rfl rfl rfl ?_
  refine J_aload_n X (dt tJ4_unlinkLast 15 rfl) 0 rfl ?_
  refine J_ifnonnull X (some p) 37 (dt tJ4_unlinkLast 16 rfl) (by decide) (fun _ _ => ?_) (fun c9 => by cases c9)
  refine J_aload_n X (dt tJ4_unlinkLast 21 rfl) 0 rfl ?_
  refine J_null X (dt tJ4_unlinkLast 22 rfl) ?_
  refine p_J4_36_12 X (fs2 := [.ref x, .null, va_rf pp]) (dt tJ4_unlinkLast 23 rfl) (pu_o (ne_c hp ha (by decide)) (pu_o hpz hp)) rfl rfl rfl rfl ?_
  refine J_aload_n X (dt tJ4_unlinkLast 24 rfl) 2 rfl ?_
  refine J_dup X (dt tJ4_unlinkLast 25 rfl) rfl ?_
  refine g_J4_7_3 X (dt tJ4_unlinkLast 26 rfl) (pu_o (ne_c ha hp (by decide)) (pu_s _ _ _)) rfl ?_
  refine J_iconst X (nI 1) (dt tJ4_unlinkLast 27 rfl) (by decide) ?_
  refine J_isubN X (dt tJ4_unlinkLast 28 rfl) (by omega) ?_
  refine p_J4_7_3 X (fs2 := [.int md, .int (nI (n - 1)), va_rf f, .ref p]) (dt tJ4_unlinkLast 29 rfl) (pu_o (ne_c ha hp (by decide)) (pu_s _ _ _)) rfl rfl rfl rfl ?_
  refine J_heap (h2 := pu (pu (pu h z (eo 12 [.null, .null, .null])) p (eo 12 [.ref x, .null, va_rf pp])) a (eo 3 [.int md, .int (nI (n - 1)), va_rf f, .ref p])) (pu_dr1 (ne_c ha hp (by decide))) ?_
  refine J_aload_n X (dt tJ4_unlinkLast 30 rfl) 2 rfl ?_
  refine J_dup X (dt tJ4_unlinkLast 31 rfl) rfl ?_
  refine g_J4_33_3 X (dt tJ4_unlinkLast 32 rfl) (pu_s _ _ _) rfl ?_
  refine J_iconst X (nI 1) (dt tJ4_unlinkLast 33 rfl) (by decide) ?_
  refine J_iadd X (dt tJ4_unlinkLast 34 rfl) ?_
  refine p_J4_33_3 X (fs2 := [.int (md + (nI 1)), .int (nI (n - 1)), va_rf f, .ref p]) (dt tJ4_unlinkLast 35 rfl) (pu_s _ _ _) rfl rfl rfl rfl ?_
  refine J_heap (h2 := pu (pu (pu h z (eo 12 [.null, .null, .null])) p (eo 12 [.ref x, .null, va_rf pp])) a (eo 3 [.int (md + (nI 1)), .int (nI (n - 1)), va_rf f, .ref p])) (pu_pu _ _ _ _) ?_
  refine J_aload_n X (dt tJ4_unlinkLast 36 rfl) 1 rfl ?_
  exact J_aret X rr (dt tJ4_unlinkLast 37 rfl) (Nat.le_of_ble_eq_true rfl) (Nat.le_of_ble_eq_true rfl) (Or.inl ⟨_, rfl⟩) (Or.inr ⟨_, rfl⟩) ⟨rfl, rfl⟩
abbrev cJ4_removeLast : ByteArray := prog_52_method_12_code
def yJ4_removeLast : MethodName := ⟨RJ4, "removeLast", "()Ljava/lang/Object;"⟩
theorem tJ4_removeLast : dtab cJ4_removeLast [(0, .aload_n 0, 1, 1), (1, .getfield 27, 3, 4), (4, .astore_n 1, 1, 5), (5, .aload_n 1, 1, 6), (6, .ifnonnull 11, 3, 9), (9, .new 43, 3, 12), (12, .dup, 1, 13), (13, .invokespecial 45, 3, 16), (16, .athrow, 1, 17), (17, .aload_n 0, 1, 18), (18, .aload_n 1, 1, 19), (19, .invokevirtual 50, 3, 22), (22, .areturn, 1, 23)] := by unfold dtab; decide +kernel
theorem okJ4_removeLast : okY yJ4_removeLast 0 := by decide +kernel
set_option maxHeartbeats 4000000 in
theorem c_LLrl (l : Launch) (D : va_G) (h : PH) {a n z y p x : Nat} {md : Int32} {f pp : Option Nat} (ha : h a = some (eo 3 [.int md, .int (nI n), va_rf f, .ref z])) (hz : h z = some (eo 12 [.ref y, .null, .ref p])) (hp : h p = some (eo 12 [.ref x, .ref z, va_rf pp])) (hn : 1 ≤ n) (hpz : p ≠ z) : Ct l D yJ4_removeLast cJ4_removeLast 2 (some (.object "java/lang/Object")) (rmC 1 23 0 0) [.ref a] h (PS (pu (pu (pu h z (eo 12 [.null, .null, .null])) p (eo 12 [.ref x, .null, va_rf pp])) a (eo 3 [.int (md + (nI 1)), .int (nI (n - 1)), va_rf f, .ref p])) (some (.ref y))) := by
  refine Ct.of (by decide) rfl (fun Γ X rr hmn => ?_)
  have X : Cx l D cJ4_removeLast RJ4 2 (rmC 1 23 0 0) Γ := X
  show J Γ h 0 0 0 [(0, .ref a)] []
  refine J_aload_n X (dt tJ4_removeLast 0 rfl) 0 rfl ?_
  refine g_J4_27_3 X (dt tJ4_removeLast 1 rfl) ha rfl ?_
  refine J_astore_n X (lv2 := [(1, .ref z), (0, .ref a)]) (dt tJ4_removeLast 2 rfl) rfl rfl rfl ?_
  refine J_aload_n X (dt tJ4_removeLast 3 rfl) 0 rfl ?_
  refine J_ifnonnull X (some z) 17 (dt tJ4_removeLast 4 rfl) (by decide) (fun _ _ => ?_) (fun c9 => by cases c9)
  refine J_aload_n X (dt tJ4_removeLast 9 rfl) 1 rfl ?_
  refine J_aload_n X (dt tJ4_removeLast 10 rfl) 0 rfl ?_
  refine J_callVR (rest := []) X (T := TJ4) (dt tJ4_removeLast 11 rfl) (c_LLul l D _ (a := a) (n := n) (z := z) (y := y) (p := p) (x := x) (md := md) (f := f) (pp := pp) ha hz hp (by omega) hpz) (lw_V q666 q668 qs9 q75 q669) okJ4_unlinkLast rfl (Or.inl ha) rfl ⟨Nat.le_of_ble_eq_true rfl, Nat.le_of_ble_eq_true rfl⟩ rfl (Nat.le_of_ble_eq_true rfl) (Nat.le_of_ble_eq_true rfl) (Nat.le_of_ble_eq_true rfl) (fun v9 h9 hp9 => ?_)
  obtain ⟨rfl, e9⟩ := hp9
  rw [e9]
  show J Γ (pu (pu (pu h z (eo 12 [.null, .null, .null])) p (eo 12 [.ref x, .null, va_rf pp])) a (eo 3 [.int (md + (nI 1)), .int (nI (n - 1)), va_rf f, .ref p])) 0 0 22 [(1, .ref z), (0, .ref a)] [.ref y]
  exact J_aret X rr (dt tJ4_removeLast 12 rfl) (Nat.le_of_ble_eq_true rfl) (Nat.le_of_ble_eq_true rfl) (Or.inl ⟨_, rfl⟩) (Or.inr ⟨_, rfl⟩) ⟨rfl, rfl⟩
abbrev cJ4_unlinkFirst : ByteArray := prog_52_method_6_code
def yJ4_unlinkFirst : MethodName := ⟨RJ4, "unlinkFirst", "(Ljava/util/LinkedList$Node;)Ljava/lang/Object;"⟩
theorem tJ4_unlinkFirst : dtab cJ4_unlinkFirst [(0, .aload_n 1, 1, 1), (1, .getfield 39, 3, 4), (4, .astore_n 2, 1, 5), (5, .aload_n 1, 1, 6), (6, .getfield 36, 3, 9), (9, .astore_n 3, 1, 10), (10, .aload_n 1, 1, 11), (11, .aconst_null, 1, 12), (12, .putfield 39, 3, 15), (15, .aload_n 1, 1, 16), (16, .aconst_null, 1, 17), (17, .putfield 36, 3, 20), (20, .aload_n 0, 1, 21), (21, .aload_n 3, 1, 22), (22, .putfield 18, 3, 25), (25, .aload_n 3, 1, 26), (26, .ifnonnull 11, 3, 29), (29, .aload_n 0, 1, 30), (30, .aconst_null, 1, 31), (31, .putfield 27, 3, 34), (34, .goto 8, 3, 37), (37, .aload_n 3, 1, 38), (38, .aconst_null, 1, 39), (39, .putfield 30, 3, 42), (42, .aload_n 0, 1, 43), (43, .dup, 1, 44), (44, .getfield 7, 3, 47), (47, .iconst 1, 1, 48), (48, .isub, 1, 49), (49, .putfield 7, 3, 52), (52, .aload_n 0, 1, 53), (53, .dup, 1, 54), (54, .getfield 33, 3, 57), (57, .iconst 1, 1, 58), (58, .iadd, 1, 59), (59, .putfield 33, 3, 62), (62, .aload_n 2, 1, 63), (63, .areturn, 1, 64)] := by unfold dtab; decide +kernel
theorem okJ4_unlinkFirst : okY yJ4_unlinkFirst 1 := by decide +kernel
set_option maxHeartbeats 4000000 in
theorem c_LLuf2 (l : Launch) (D : va_G) (h : PH) {a n f y g x : Nat} {md : Int32} {z pf ng : Option Nat} (ha : h a = some (eo 3 [.int md, .int (nI n), .ref f, va_rf z])) (hf : h f = some (eo 12 [.ref y, .ref g, va_rf pf])) (hg : h g = some (eo 12 [.ref x, va_rf ng, .ref f])) (hn : 1 ≤ n) (hgf : g ≠ f) : Ct l D yJ4_unlinkFirst cJ4_unlinkFirst 4 (some (.object "java/lang/Object")) (rmC 0 0 0 0) [.ref a, .ref f] h (PS (pu (pu (pu h f (eo 12 [.null, .null, va_rf pf])) g (eo 12 [.ref x, va_rf ng, .null])) a (eo 3 [.int (md + (nI 1)), .int (nI (n - 1)), .ref g, va_rf z])) (some (.ref y))) := by
  refine Ct.of (by decide) rfl (fun Γ X rr hmn => ?_)
  have X : Cx l D cJ4_unlinkFirst RJ4 4 (rmC 0 0 0 0) Γ := X
  show J Γ h 0 0 0 [(0, .ref a), (1, .ref f)] []
  refine J_aload_n X (dt tJ4_unlinkFirst 0 rfl) 1 rfl ?_
  refine g_J4_39_12 X (dt tJ4_unlinkFirst 1 rfl) hf rfl ?_
  refine J_astore_n X (lv2 := [(2, .ref y), (0, .ref a), (1, .ref f)]) (dt tJ4_unlinkFirst 2 rfl) rfl rfl rfl ?_
  refine J_aload_n X (dt tJ4_unlinkFirst 3 rfl) 2 rfl ?_
  refine g_J4_36_12 X (dt tJ4_unlinkFirst 4 rfl) hf rfl ?_
  refine J_astore_n X (lv2 := [(3, .ref g), (2, .ref y), (0, .ref a), (1, .ref f)]) (dt tJ4_unlinkFirst 5 rfl) rfl rfl rfl ?_
  refine J_aload_n X (dt tJ4_unlinkFirst 6 rfl) 3 rfl ?_
  refine J_null X (dt tJ4_unlinkFirst 7 rfl) ?_
  refine p_J4_39_12 X (fs2 := [.null, .ref g, va_rf pf]) (dt tJ4_unlinkFirst 8 rfl) hf rfl rfl rfl rfl ?_
  refine J_aload_n X (dt tJ4_unlinkFirst 9 rfl) 3 rfl ?_
  refine J_null X (dt tJ4_unlinkFirst 10 rfl) ?_
  refine p_J4_36_12 X (fs2 := [.null, .null, va_rf pf]) (dt tJ4_unlinkFirst 11 rfl) (pu_s _ _ _) rfl rfl rfl rfl ?_
  refine J_heap (h2 := pu h f (eo 12 [.null, .null, va_rf pf])) (pu_pu _ _ _ _) ?_
  refine J_aload_n X (dt tJ4_unlinkFirst 12 rfl) 2 rfl ?_
  refine J_aload_n X (dt tJ4_unlinkFirst 13 rfl) 0 rfl ?_
  refine p_J4_18_3 X (fs2 := [.int md, .int (nI n), .ref g, va_rf z]) (dt tJ4_unlinkFirst 14 rfl) (pu_o (ne_c ha hf (by decide)) ha) rfl rfl rfl rfl ?_
  refine J_aload_n X (dt tJ4_unlinkFirst 15 rfl) 0 rfl ?_
  refine J_ifnonnull X (some g) 37 (dt tJ4_unlinkFirst 16 rfl) (by decide) (fun _ _ => ?_) (fun c9 => by cases c9)
  refine J_aload_n X (dt tJ4_unlinkFirst 21 rfl) 0 rfl ?_
  refine J_null X (dt tJ4_unlinkFirst 22 rfl) ?_
  refine p_J4_30_12 X (fs2 := [.ref x, va_rf ng, .null]) (dt tJ4_unlinkFirst 23 rfl) (pu_o (ne_c hg ha (by decide)) (pu_o hgf hg)) rfl rfl rfl rfl ?_
  refine J_aload_n X (dt tJ4_unlinkFirst 24 rfl) 2 rfl ?_
  refine J_dup X (dt tJ4_unlinkFirst 25 rfl) rfl ?_
  refine g_J4_7_3 X (dt tJ4_unlinkFirst 26 rfl) (pu_o (ne_c ha hg (by decide)) (pu_s _ _ _)) rfl ?_
  refine J_iconst X (nI 1) (dt tJ4_unlinkFirst 27 rfl) (by decide) ?_
  refine J_isubN X (dt tJ4_unlinkFirst 28 rfl) (by omega) ?_
  refine p_J4_7_3 X (fs2 := [.int md, .int (nI (n - 1)), .ref g, va_rf z]) (dt tJ4_unlinkFirst 29 rfl) (pu_o (ne_c ha hg (by decide)) (pu_s _ _ _)) rfl rfl rfl rfl ?_
  refine J_heap (h2 := pu (pu (pu h f (eo 12 [.null, .null, va_rf pf])) g (eo 12 [.ref x, va_rf ng, .null])) a (eo 3 [.int md, .int (nI (n - 1)), .ref g, va_rf z])) (pu_dr1 (ne_c ha hg (by decide))) ?_
  refine J_aload_n X (dt tJ4_unlinkFirst 30 rfl) 2 rfl ?_
  refine J_dup X (dt tJ4_unlinkFirst 31 rfl) rfl ?_
  refine g_J4_33_3 X (dt tJ4_unlinkFirst 32 rfl) (pu_s _ _ _) rfl ?_
  refine J_iconst X (nI 1) (dt tJ4_unlinkFirst 33 rfl) (by decide) ?_
  refine J_iadd X (dt tJ4_unlinkFirst 34 rfl) ?_
  refine p_J4_33_3 X (fs2 := [.int (md + (nI 1)), .int (nI (n - 1)), .ref g, va_rf z]) (dt tJ4_unlinkFirst 35 rfl) (pu_s _ _ _) rfl rfl rfl rfl ?_
  refine J_heap (h2 := pu (pu (pu h f (eo 12 [.null, .null, va_rf pf])) g (eo 12 [.ref x, va_rf ng, .null])) a (eo 3 [.int (md + (nI 1)), .int (nI (n - 1)), .ref g, va_rf z])) (pu_pu _ _ _ _) ?_
  refine J_aload_n X (dt tJ4_unlinkFirst 36 rfl) 1 rfl ?_
  exact J_aret X rr (dt tJ4_unlinkFirst 37 rfl) (Nat.le_of_ble_eq_true rfl) (Nat.le_of_ble_eq_true rfl) (Or.inl ⟨_, rfl⟩) (Or.inr ⟨_, rfl⟩) ⟨rfl, rfl⟩
set_option maxHeartbeats 4000000 in
theorem c_LLuf1 (l : Launch) (D : va_G) (h : PH) {a n f y : Nat} {md : Int32} {z pf : Option Nat} (ha : h a = some (eo 3 [.int md, .int (nI n), .ref f, va_rf z])) (hf : h f = some (eo 12 [.ref y, .null, va_rf pf])) (hn : 1 ≤ n) : Ct l D yJ4_unlinkFirst cJ4_unlinkFirst 4 (some (.object "java/lang/Object")) (rmC 0 0 0 0) [.ref a, .ref f] h (PS (pu (pu h f (eo 12 [.null, .null, va_rf pf])) a (eo 3 [.int (md + (nI 1)), .int (nI (n - 1)), .null, .null])) (some (.ref y))) := by
  refine Ct.of (by decide) rfl (fun Γ X rr hmn => ?_)
  have X : Cx l D cJ4_unlinkFirst RJ4 4 (rmC 0 0 0 0) Γ := X
  show J Γ h 0 0 0 [(0, .ref a), (1, .ref f)] []
  refine J_aload_n X (dt tJ4_unlinkFirst 0 rfl) 1 rfl ?_
  refine g_J4_39_12 X (dt tJ4_unlinkFirst 1 rfl) hf rfl ?_
  refine J_astore_n X (lv2 := [(2, .ref y), (0, .ref a), (1, .ref f)]) (dt tJ4_unlinkFirst 2 rfl) rfl rfl rfl ?_
  refine J_aload_n X (dt tJ4_unlinkFirst 3 rfl) 2 rfl ?_
  refine g_J4_36_12 X (dt tJ4_unlinkFirst 4 rfl) hf rfl ?_
  refine J_astore_nN X (lv2 := [(3, .null), (2, .ref y), (0, .ref a), (1, .ref f)]) (dt tJ4_unlinkFirst 5 rfl) rfl rfl rfl ?_
  refine J_aload_n X (dt tJ4_unlinkFirst 6 rfl) 3 rfl ?_
  refine J_null X (dt tJ4_unlinkFirst 7 rfl) ?_
  refine p_J4_39_12 X (fs2 := [.null, .null, va_rf pf]) (dt tJ4_unlinkFirst 8 rfl) hf rfl rfl rfl rfl ?_
  refine J_aload_n X (dt tJ4_unlinkFirst 9 rfl) 3 rfl ?_
  refine J_null X (dt tJ4_unlinkFirst 10 rfl) ?_
  refine p_J4_36_12 X (fs2 := [.null, .null, va_rf pf]) (dt tJ4_unlinkFirst 11 rfl) (pu_s _ _ _) rfl rfl rfl rfl ?_
  refine J_heap (h2 := pu h f (eo 12 [.null, .null, va_rf pf])) (pu_pu _ _ _ _) ?_
  refine J_aload_n X (dt tJ4_unlinkFirst 12 rfl) 2 rfl ?_
  refine J_aload_nN X (dt tJ4_unlinkFirst 13 rfl) 0 rfl ?_
  refine p_J4_18_3 X (fs2 := [.int md, .int (nI n), .null, va_rf z]) (dt tJ4_unlinkFirst 14 rfl) (pu_o (ne_c ha hf (by decide)) ha) rfl rfl rfl rfl ?_
  refine J_aload_nN X (dt tJ4_unlinkFirst 15 rfl) 0 rfl ?_
  refine J_ifnonnull X none 37 (dt tJ4_unlinkFirst 16 rfl) (by decide) (fun _ c9 => by cases c9) (fun _ => ?_)
  refine J_aload_n X (dt tJ4_unlinkFirst 17 rfl) 2 rfl ?_
  refine J_null X (dt tJ4_unlinkFirst 18 rfl) ?_
  refine p_J4_27_3 X (fs2 := [.int md, .int (nI n), .null, .null]) (dt tJ4_unlinkFirst 19 rfl) (pu_s _ _ _) rfl rfl rfl rfl ?_
  refine J_heap (h2 := pu (pu h f (eo 12 [.null, .null, va_rf pf])) a (eo 3 [.int md, .int (nI n), .null, .null])) (pu_pu _ _ _ _) ?_
  refine J_goto X (tgt := 42) (dt tJ4_unlinkFirst 20 rfl) (by decide) ?_
  refine J_aload_n X (dt tJ4_unlinkFirst 24 rfl) 2 rfl ?_
  refine J_dup X (dt tJ4_unlinkFirst 25 rfl) rfl ?_
  refine g_J4_7_3 X (dt tJ4_unlinkFirst 26 rfl) (pu_s _ _ _) rfl ?_
  refine J_iconst X (nI 1) (dt tJ4_unlinkFirst 27 rfl) (by decide) ?_
  refine J_isubN X (dt tJ4_unlinkFirst 28 rfl) (by omega) ?_
  refine p_J4_7_3 X (fs2 := [.int md, .int (nI (n - 1)), .null, .null]) (dt tJ4_unlinkFirst 29 rfl) (pu_s _ _ _) rfl rfl rfl rfl ?_
  refine J_heap (h2 := pu (pu h f (eo 12 [.null, .null, va_rf pf])) a (eo 3 [.int md, .int (nI (n - 1)), .null, .null])) (pu_pu _ _ _ _) ?_
  refine J_aload_n X (dt tJ4_unlinkFirst 30 rfl) 2 rfl ?_
  refine J_dup X (dt tJ4_unlinkFirst 31 rfl) rfl ?_
  refine g_J4_33_3 X (dt tJ4_unlinkFirst 32 rfl) (pu_s _ _ _) rfl ?_
  refine J_iconst X (nI 1) (dt tJ4_unlinkFirst 33 rfl) (by decide) ?_
  refine J_iadd X (dt tJ4_unlinkFirst 34 rfl) ?_
  refine p_J4_33_3 X (fs2 := [.int (md + (nI 1)), .int (nI (n - 1)), .null, .null]) (dt tJ4_unlinkFirst 35 rfl) (pu_s _ _ _) rfl rfl rfl rfl ?_
  refine J_heap (h2 := pu (pu h f (eo 12 [.null, .null, va_rf pf])) a (eo 3 [.int (md + (nI 1)), .int (nI (n - 1)), .null, .null])) (pu_pu _ _ _ _) ?_
  refine J_aload_n X (dt tJ4_unlinkFirst 36 rfl) 1 rfl ?_
  exact J_aret X rr (dt tJ4_unlinkFirst 37 rfl) (Nat.le_of_ble_eq_true rfl) (Nat.le_of_ble_eq_true rfl) (Or.inl ⟨_, rfl⟩) (Or.inr ⟨_, rfl⟩) ⟨rfl, rfl⟩
abbrev cJ4_pollFirst : ByteArray := prog_52_method_43_code
def yJ4_pollFirst : MethodName := ⟨RJ4, "pollFirst", "()Ljava/lang/Object;"⟩
theorem tJ4_pollFirst : dtab cJ4_pollFirst [(0, .aload_n 0, 1, 1), (1, .getfield 18, 3, 4), (4, .astore_n 1, 1, 5), (5, .aload_n 1, 1, 6), (6, .ifnonnull 7, 3, 9), (9, .aconst_null, 1, 10), (10, .goto 8, 3, 13), (13, .aload_n 0, 1, 14), (14, .aload_n 1, 1, 15), (15, .invokevirtual 46, 3, 18), (18, .areturn, 1, 19)] := by unfold dtab; decide +kernel
theorem okJ4_pollFirst : okY yJ4_pollFirst 0 := by decide +kernel
set_option maxHeartbeats 4000000 in
theorem c_LLpf2 (l : Launch) (D : va_G) (h : PH) {a n f y g x : Nat} {md : Int32} {z pf ng : Option Nat} (ha : h a = some (eo 3 [.int md, .int (nI n), .ref f, va_rf z])) (hf : h f = some (eo 12 [.ref y, .ref g, va_rf pf])) (hg : h g = some (eo 12 [.ref x, va_rf ng, .ref f])) (hn : 1 ≤ n) (hgf : g ≠ f) : Ct l D yJ4_pollFirst cJ4_pollFirst 2 (some (.object "java/lang/Object")) (rmC 1 23 0 0) [.ref a] h (PS (pu (pu (pu h f (eo 12 [.null, .null, va_rf pf])) g (eo 12 [.ref x, va_rf ng, .null])) a (eo 3 [.int (md + (nI 1)), .int (nI (n - 1)), .ref g, va_rf z])) (some (.ref y))) := by
  refine Ct.of (by decide) rfl (fun Γ X rr hmn => ?_)
  have X : Cx l D cJ4_pollFirst RJ4 2 (rmC 1 23 0 0) Γ := X
  show J Γ h 0 0 0 [(0, .ref a)] []
  refine J_aload_n X (dt tJ4_pollFirst 0 rfl) 0 rfl ?_
  refine g_J4_18_3 X (dt tJ4_pollFirst 1 rfl) ha rfl ?_
  refine J_astore_n X (lv2 := [(1, .ref f), (0, .ref a)]) (dt tJ4_pollFirst 2 rfl) rfl rfl rfl ?_
  refine J_aload_n X (dt tJ4_pollFirst 3 rfl) 0 rfl ?_
  refine J_ifnonnull X (some f) 13 (dt tJ4_pollFirst 4 rfl) (by decide) (fun _ _ => ?_) (fun c9 => by cases c9)
  refine J_aload_n X (dt tJ4_pollFirst 7 rfl) 1 rfl ?_
  refine J_aload_n X (dt tJ4_pollFirst 8 rfl) 0 rfl ?_
  refine J_callVR (rest := []) X (T := TJ4) (dt tJ4_pollFirst 9 rfl) (c_LLuf2 l D _ (a := a) (n := n) (f := f) (y := y) (g := g) (x := x) (md := md) (z := z) (pf := pf) (ng := ng) ha hf hg (by omega) hgf) (lw_V q1712 q1714 qs33 q75 q1715) okJ4_unlinkFirst rfl (Or.inl ha) rfl ⟨Nat.le_of_ble_eq_true rfl, Nat.le_of_ble_eq_true rfl⟩ rfl (Nat.le_of_ble_eq_true rfl) (Nat.le_of_ble_eq_true rfl) (Nat.le_of_ble_eq_true rfl) (fun v9 h9 hp9 => ?_)
  obtain ⟨rfl, e9⟩ := hp9
  rw [e9]
  show J Γ (pu (pu (pu h f (eo 12 [.null, .null, va_rf pf])) g (eo 12 [.ref x, va_rf ng, .null])) a (eo 3 [.int (md + (nI 1)), .int (nI (n - 1)), .ref g, va_rf z])) 0 0 18 [(1, .ref f), (0, .ref a)] [.ref y]
  exact J_aret X rr (dt tJ4_pollFirst 10 rfl) (Nat.le_of_ble_eq_true rfl) (Nat.le_of_ble_eq_true rfl) (Or.inl ⟨_, rfl⟩) (Or.inr ⟨_, rfl⟩) ⟨rfl, rfl⟩
set_option maxHeartbeats 4000000 in
theorem c_LLpf1 (l : Launch) (D : va_G) (h : PH) {a n f y : Nat} {md : Int32} {z pf : Option Nat} (ha : h a = some (eo 3 [.int md, .int (nI n), .ref f, va_rf z])) (hf : h f = some (eo 12 [.ref y, .null, va_rf pf])) (hn : 1 ≤ n) : Ct l D yJ4_pollFirst cJ4_pollFirst 2 (some (.object "java/lang/Object")) (rmC 1 23 0 0) [.ref a] h (PS (pu (pu h f (eo 12 [.null, .null, va_rf pf])) a (eo 3 [.int (md + (nI 1)), .int (nI (n - 1)), .null, .null])) (some (.ref y))) := by
  refine Ct.of (by decide) rfl (fun Γ X rr hmn => ?_)
  have X : Cx l D cJ4_pollFirst RJ4 2 (rmC 1 23 0 0) Γ := X
  show J Γ h 0 0 0 [(0, .ref a)] []
  refine J_aload_n X (dt tJ4_pollFirst 0 rfl) 0 rfl ?_
  refine g_J4_18_3 X (dt tJ4_pollFirst 1 rfl) ha rfl ?_
  refine J_astore_n X (lv2 := [(1, .ref f), (0, .ref a)]) (dt tJ4_pollFirst 2 rfl) rfl rfl rfl ?_
  refine J_aload_n X (dt tJ4_pollFirst 3 rfl) 0 rfl ?_
  refine J_ifnonnull X (some f) 13 (dt tJ4_pollFirst 4 rfl) (by decide) (fun _ _ => ?_) (fun c9 => by cases c9)
  refine J_aload_n X (dt tJ4_pollFirst 7 rfl) 1 rfl ?_
  refine J_aload_n X (dt tJ4_pollFirst 8 rfl) 0 rfl ?_
  refine J_callVR (rest := []) X (T := TJ4) (dt tJ4_pollFirst 9 rfl) (c_LLuf1 l D _ (a := a) (n := n) (f := f) (y := y) (md := md) (z := z) (pf := pf) ha hf (by omega)) (lw_V q1712 q1714 qs33 q75 q1715) okJ4_unlinkFirst rfl (Or.inl ha) rfl ⟨Nat.le_of_ble_eq_true rfl, Nat.le_of_ble_eq_true rfl⟩ rfl (Nat.le_of_ble_eq_true rfl) (Nat.le_of_ble_eq_true rfl) (Nat.le_of_ble_eq_true rfl) (fun v9 h9 hp9 => ?_)
  obtain ⟨rfl, e9⟩ := hp9
  rw [e9]
  show J Γ (pu (pu h f (eo 12 [.null, .null, va_rf pf])) a (eo 3 [.int (md + (nI 1)), .int (nI (n - 1)), .null, .null])) 0 0 18 [(1, .ref f), (0, .ref a)] [.ref y]
  exact J_aret X rr (dt tJ4_pollFirst 10 rfl) (Nat.le_of_ble_eq_true rfl) (Nat.le_of_ble_eq_true rfl) (Or.inl ⟨_, rfl⟩) (Or.inr ⟨_, rfl⟩) ⟨rfl, rfl⟩
