/-! printed by gen/compw.py -/
set_option maxRecDepth 100000
theorem q71 : (Jvm.Cond.initialized "java/util/AbstractCollection") ∈ lw_all := lw_g (lw_at lw_m1 3 rfl) rfl
theorem q72 : (Jvm.Cond.initialized "java/util/AbstractList") ∈ lw_all := lw_g (lw_at lw_m1 4 rfl) rfl
theorem q73 : (Jvm.Cond.initialized "java/util/ArrayList") ∈ lw_all := lw_g (lw_at lw_m1 5 rfl) rfl
theorem q78 : (Jvm.Cond.initialized "java/lang/Math") ∈ lw_all := lw_g (lw_at lw_m1 10 rfl) rfl
theorem q133 : (Jvm.Cond.methodLink "java/util/ArrayList" (1 : Nat) ({ cls := "java/util/AbstractList", name := "<init>", desc := "()V" } : Jvm.MethodName)) ∈ lw_all := lw_g (lw_at lw_m1 65 rfl) rfl
theorem q134 : (Jvm.Cond.instanceMethod ({ cls := "java/util/AbstractList", name := "<init>", desc := "()V" } : Jvm.MethodName)) ∈ lw_all := lw_g (lw_at lw_m1 66 rfl) rfl
theorem q135 : (Jvm.Cond.code ({ cls := "java/util/AbstractList", name := "<init>", desc := "()V" } : Jvm.MethodName) prog_39_method_1_code (1 : Nat) (Option.none : Option Jvm.ClassFile.FieldType)) ∈ lw_all := lw_g (lw_at lw_m1 67 rfl) rfl
theorem q136 : (Jvm.Cond.methodLink "java/util/AbstractList" (1 : Nat) ({ cls := "java/util/AbstractCollection", name := "<init>", desc := "()V" } : Jvm.MethodName)) ∈ lw_all := lw_g (lw_at lw_m1 68 rfl) rfl
theorem q137 : (Jvm.Cond.instanceMethod ({ cls := "java/util/AbstractCollection", name := "<init>", desc := "()V" } : Jvm.MethodName)) ∈ lw_all := lw_g (lw_at lw_m1 69 rfl) rfl
theorem q138 : (Jvm.Cond.code ({ cls := "java/util/AbstractCollection", name := "<init>", desc := "()V" } : Jvm.MethodName) prog_38_method_1_code (1 : Nat) (Option.none : Option Jvm.ClassFile.FieldType)) ∈ lw_all := lw_g (lw_at lw_m1 70 rfl) rfl
theorem q139 : (Jvm.Cond.methodLink "java/util/AbstractCollection" (1 : Nat) ({ cls := "java/lang/Object", name := "<init>", desc := "()V" } : Jvm.MethodName)) ∈ lw_all := lw_g (lw_at lw_m1 71 rfl) rfl
theorem q140 : (Jvm.Cond.fieldLink "java/util/ArrayList" (39 : Nat) "java/util/ArrayList" "DEFAULTCAPACITY_EMPTY_ELEMENTDATA" "[Ljava/lang/Object;") ∈ lw_all := lw_g (lw_at lw_m1 72 rfl) rfl
theorem q142 : (Jvm.Cond.fieldLink "java/util/ArrayList" (9 : Nat) "java/util/ArrayList" "elementData" "[Ljava/lang/Object;") ∈ lw_all := lw_g (lw_at lw_m1 74 rfl) rfl
theorem q145 : (Jvm.Cond.fieldLink "java/util/ArrayList" (48 : Nat) "java/util/ArrayList" "size" "I") ∈ lw_all := lw_g (lw_at lw_m1 77 rfl) rfl
theorem q146 : (Jvm.Cond.fieldLink "java/util/AbstractList" (7 : Nat) "java/util/AbstractList" "modCount" "I") ∈ lw_all := lw_g (lw_at lw_m1 78 rfl) rfl
theorem q150 : (Jvm.Cond.sameField "java/util/ArrayList" "java/util/AbstractList" "modCount" "I") ∈ lw_all := lw_g (lw_at lw_m1 82 rfl) rfl
theorem q153 : (Jvm.Cond.fieldLink "java/util/ArrayList" (63 : Nat) "java/util/ArrayList" "modCount" "I") ∈ lw_all := lw_g (lw_at lw_m1 85 rfl) rfl
theorem q242 : (Jvm.Cond.methodLink "java/util/ArrayList" (131 : Nat) ({ cls := "java/util/ArrayList", name := "add", desc := "(Ljava/lang/Object;[Ljava/lang/Object;I)V" } : Jvm.MethodName)) ∈ lw_all := lw_g (lw_at lw_m1 174 rfl) rfl
theorem q244 : (Jvm.Cond.instanceMethod ({ cls := "java/util/ArrayList", name := "add", desc := "(Ljava/lang/Object;[Ljava/lang/Object;I)V" } : Jvm.MethodName)) ∈ lw_all := lw_g (lw_at lw_m1 176 rfl) rfl
theorem q245 : (Jvm.Cond.code ({ cls := "java/util/ArrayList", name := "add", desc := "(Ljava/lang/Object;[Ljava/lang/Object;I)V" } : Jvm.MethodName) prog_44_method_24_code (4 : Nat) (Option.none : Option Jvm.ClassFile.FieldType)) ∈ lw_all := lw_g (lw_at lw_m1 177 rfl) rfl
theorem q246 : (Jvm.Cond.methodLink "java/util/ArrayList" (129 : Nat) ({ cls := "java/util/ArrayList", name := "grow", desc := "()[Ljava/lang/Object;" } : Jvm.MethodName)) ∈ lw_all := lw_g (lw_at lw_m1 178 rfl) rfl
theorem q248 : (Jvm.Cond.instanceMethod ({ cls := "java/util/ArrayList", name := "grow", desc := "()[Ljava/lang/Object;" } : Jvm.MethodName)) ∈ lw_all := lw_g (lw_at lw_m1 180 rfl) rfl
theorem q249 : (Jvm.Cond.code ({ cls := "java/util/ArrayList", name := "grow", desc := "()[Ljava/lang/Object;" } : Jvm.MethodName) prog_44_method_7_code (1 : Nat) (Option.some (Jvm.ClassFile.FieldType.array (Jvm.ClassFile.FieldType.object "java/lang/Object")))) ∈ lw_all := lw_g (lw_at lw_m1 181 rfl) rfl
theorem q250 : (Jvm.Cond.methodLink "java/util/ArrayList" (69 : Nat) ({ cls := "java/util/ArrayList", name := "grow", desc := "(I)[Ljava/lang/Object;" } : Jvm.MethodName)) ∈ lw_all := lw_g (lw_at lw_m1 182 rfl) rfl
theorem q252 : (Jvm.Cond.instanceMethod ({ cls := "java/util/ArrayList", name := "grow", desc := "(I)[Ljava/lang/Object;" } : Jvm.MethodName)) ∈ lw_all := lw_g (lw_at lw_m1 184 rfl) rfl
theorem q253 : (Jvm.Cond.code ({ cls := "java/util/ArrayList", name := "grow", desc := "(I)[Ljava/lang/Object;" } : Jvm.MethodName) prog_44_method_6_code (4 : Nat) (Option.some (Jvm.ClassFile.FieldType.array (Jvm.ClassFile.FieldType.object "java/lang/Object")))) ∈ lw_all := lw_g (lw_at lw_m1 185 rfl) rfl
theorem q258 : (Jvm.Cond.static ({ cls := "java/lang/Math", name := "max", desc := "(II)I" } : Jvm.MethodName)) ∈ lw_all := lw_g (lw_at lw_m1 190 rfl) rfl
theorem q259 : (Jvm.Cond.code ({ cls := "java/lang/Math", name := "max", desc := "(II)I" } : Jvm.MethodName) prog_26_method_65_code (2 : Nat) (Option.some Jvm.ClassFile.FieldType.int)) ∈ lw_all := lw_g (lw_at lw_m1 191 rfl) rfl
theorem q298 : (Jvm.Cond.arrayOver (Jvm.ClassFile.FieldType.object "java/lang/Object")) ∈ lw_tbl := lw_at lw_m1 230 rfl
theorem q306 : (Jvm.Cond.methodLink "java/util/ArrayList" (79 : Nat) ({ cls := "java/lang/Math", name := "max", desc := "(II)I" } : Jvm.MethodName)) ∈ lw_all := lw_g (lw_at lw_m1 238 rfl) rfl
theorem q307 : (Jvm.Cond.classLink "java/util/ArrayList" (7 : Nat) "java/lang/Object") ∈ lw_all := lw_g (lw_at lw_m1 239 rfl) rfl
theorem q2155 : (Jvm.Cond.castable "LeadRaces$Race" "java/lang/Object") ∈ lw_tbl := lw_at lw_m9 167 rfl
def RJ1 : String := "java/util/AbstractList"
def RJ0 : String := "java/util/AbstractCollection"
section
variable {l : Launch} {D : va_G} {cc : ByteArray} {nL : Nat} {rm : Room} {Γ : Cxt} {h : PH} {k n pc nx : Nat} {lv : List (Nat × Value)} {st : List Value}
theorem p_J1_7_2 (X : Cx l D cc RJ1 nL rm Γ) {a : Nat} {fs fs2 : List Value} {v : Value} (d : At cc pc (.putfield 7) 3 nx) (ha : h a = some (eo 2 fs)) (hn : narrow (.int) v = v) (hfit : fits (.int) v = true) (hl2 : Nat.ble (0 + 1) fs.length = true) (hfs : fs.set 0 v = fs2) (kk : J Γ (pu h a (eo 2 fs2)) k n nx lv st) : J Γ h k n pc lv (v :: .ref a :: st) := J_put X (kf := 0) (tf := tyJ2) d ha (show vwCl[2]? = some (RJ2, TJ2, 3) from rfl) in_J2 tyJ2_ok nmJ2 rfl q146 rfl rfl rfl hn hfit hl2 hfs kk
theorem p_J1_7_3 (X : Cx l D cc RJ1 nL rm Γ) {a : Nat} {fs fs2 : List Value} {v : Value} (d : At cc pc (.putfield 7) 3 nx) (ha : h a = some (eo 3 fs)) (hn : narrow (.int) v = v) (hfit : fits (.int) v = true) (hl2 : Nat.ble (0 + 1) fs.length = true) (hfs : fs.set 0 v = fs2) (kk : J Γ (pu h a (eo 3 fs2)) k n nx lv st) : J Γ h k n pc lv (v :: .ref a :: st) := J_put X (kf := 0) (tf := tyJ4) d ha (show vwCl[3]? = some (RJ4, TJ4, 4) from rfl) in_J4 tyJ4_ok nmJ4 rfl q146 rfl rfl rfl hn hfit hl2 hfs kk
theorem p_J2_9_2 (X : Cx l D cc RJ2 nL rm Γ) {a : Nat} {fs fs2 : List Value} {v : Value} (d : At cc pc (.putfield 9) 3 nx) (ha : h a = some (eo 2 fs)) (hn : narrow (.array (.object "java/lang/Object")) v = v) (hfit : fits (.array (.object "java/lang/Object")) v = true) (hl2 : Nat.ble (1 + 1) fs.length = true) (hfs : fs.set 1 v = fs2) (kk : J Γ (pu h a (eo 2 fs2)) k n nx lv st) : J Γ h k n pc lv (v :: .ref a :: st) := J_put X (kf := 1) (tf := tyJ2) d ha (show vwCl[2]? = some (RJ2, TJ2, 3) from rfl) in_J2 tyJ2_ok nmJ2 rfl q142 rfl rfl rfl hn hfit hl2 hfs kk
theorem g_J2_9_2 (X : Cx l D cc RJ2 nL rm Γ) {a : Nat} {fs : List Value} {v : Value} (d : At cc pc (.getfield 9) 3 nx) (ha : h a = some (eo 2 fs)) (hv : fs[1]? = some v) (kk : J Γ h k n nx lv (v :: st)) : J Γ h k n pc lv (.ref a :: st) := J_get X (kf := 1) d ha (show vwCl[2]? = some (RJ2, TJ2, 3) from rfl) in_J2 rfl q142 rfl hv kk
theorem g_J2_48_2 (X : Cx l D cc RJ2 nL rm Γ) {a : Nat} {fs : List Value} {v : Value} (d : At cc pc (.getfield 48) 3 nx) (ha : h a = some (eo 2 fs)) (hv : fs[2]? = some v) (kk : J Γ h k n nx lv (v :: st)) : J Γ h k n pc lv (.ref a :: st) := J_get X (kf := 2) d ha (show vwCl[2]? = some (RJ2, TJ2, 3) from rfl) in_J2 rfl q145 rfl hv kk
theorem p_J2_48_2 (X : Cx l D cc RJ2 nL rm Γ) {a : Nat} {fs fs2 : List Value} {v : Value} (d : At cc pc (.putfield 48) 3 nx) (ha : h a = some (eo 2 fs)) (hn : narrow (.int) v = v) (hfit : fits (.int) v = true) (hl2 : Nat.ble (2 + 1) fs.length = true) (hfs : fs.set 2 v = fs2) (kk : J Γ (pu h a (eo 2 fs2)) k n nx lv st) : J Γ h k n pc lv (v :: .ref a :: st) := J_put X (kf := 2) (tf := tyJ2) d ha (show vwCl[2]? = some (RJ2, TJ2, 3) from rfl) in_J2 tyJ2_ok nmJ2 rfl q145 rfl rfl rfl hn hfit hl2 hfs kk
theorem g_J2_63_2 (X : Cx l D cc RJ2 nL rm Γ) {a : Nat} {fs : List Value} {v : Value} (d : At cc pc (.getfield 63) 3 nx) (ha : h a = some (eo 2 fs)) (hv : fs[0]? = some v) (kk : J Γ h k n nx lv (v :: st)) : J Γ h k n pc lv (.ref a :: st) := J_getS X (kf := 0) d ha (show vwCl[2]? = some (RJ2, TJ2, 3) from rfl) in_J2 rfl q153 q150 hv kk
theorem p_J2_63_2 (X : Cx l D cc RJ2 nL rm Γ) {a : Nat} {fs fs2 : List Value} {v : Value} (d : At cc pc (.putfield 63) 3 nx) (ha : h a = some (eo 2 fs)) (hn : narrow (.int) v = v) (hfit : fits (.int) v = true) (hl2 : Nat.ble (0 + 1) fs.length = true) (hfs : fs.set 0 v = fs2) (kk : J Γ (pu h a (eo 2 fs2)) k n nx lv st) : J Γ h k n pc lv (v :: .ref a :: st) := J_putS X (kf := 0) (tf := tyJ2) d ha (show vwCl[2]? = some (RJ2, TJ2, 3) from rfl) in_J2 tyJ2_ok nmJ2 rfl q153 q150 rfl rfl hn hfit hl2 hfs kk
end
abbrev cJ0_init : ByteArray := prog_38_method_1_code
def yJ0_init : MethodName := ⟨RJ0, "<init>", "()V"⟩
theorem tJ0_init : dtab cJ0_init [(0, .aload_n 0, 1, 1), (1, .invokespecial 1, 3, 4), (4, .return_, 1, 5)] := by unfold dtab; decide +kernel
theorem okJ0_init : okY yJ0_init 0 := by decide +kernel
set_option maxHeartbeats 4000000 in
theorem c_ACinit2 (l : Launch) (D : va_G) (h : PH) {a : Nat} (ha : h a = some (eo 2 [.int (nI 0), .null, .int (nI 0)]))  : Ct l D yJ0_init cJ0_init 1 none (rmC 1 20 0 0) [.ref a] h (PS h none) := by
  refine Ct.of (by decide) rfl (fun Γ X rr hmn => ?_)
  have X : Cx l D cJ0_init RJ0 1 (rmC 1 20 0 0) Γ := X
  show J Γ h 0 0 0 [(0, .ref a)] []
  refine J_aload_n X (dt tJ0_init 0 rfl) 0 rfl ?_
  refine J_objI X (dt tJ0_init 1 rfl) q139 q118 q119 (Nat.le_of_ble_eq_true rfl) (Nat.le_of_ble_eq_true rfl) ?_
  exact J_vret X rr (dt tJ0_init 2 rfl) (Nat.le_of_ble_eq_true rfl) (Nat.le_of_ble_eq_true rfl) ⟨rfl, rfl⟩
abbrev cJ1_init : ByteArray := prog_39_method_1_code
def yJ1_init : MethodName := ⟨RJ1, "<init>", "()V"⟩
theorem tJ1_init : dtab cJ1_init [(0, .aload_n 0, 1, 1), (1, .invokespecial 1, 3, 4), (4, .aload_n 0, 1, 5), (5, .iconst 0, 1, 6), (6, .putfield 7, 3, 9), (9, .return_, 1, 10)] := by unfold dtab; decide +kernel
theorem okJ1_init : okY yJ1_init 0 := by decide +kernel
set_option maxHeartbeats 4000000 in
theorem c_ALinit2 (l : Launch) (D : va_G) (h : PH) {a : Nat} (ha : h a = some (eo 2 [.int (nI 0), .null, .int (nI 0)]))  : Ct l D yJ1_init cJ1_init 1 none (rmC 2 40 0 0) [.ref a] h (PS (pu h a (eo 2 [.int (nI 0), .null, .int (nI 0)])) none) := by
  refine Ct.of (by decide) rfl (fun Γ X rr hmn => ?_)
  have X : Cx l D cJ1_init RJ1 1 (rmC 2 40 0 0) Γ := X
  show J Γ h 0 0 0 [(0, .ref a)] []
  refine J_aload_n X (dt tJ1_init 0 rfl) 0 rfl ?_
  refine J_callI (rest := []) X (dt tJ1_init 1 rfl) (c_ACinit2 l D _ ha) (lw_meth q138) q71 q136 q137 rfl okJ0_init rfl ⟨Nat.le_of_ble_eq_true rfl, Nat.le_of_ble_eq_true rfl⟩ rfl (Nat.le_of_ble_eq_true rfl) (Nat.le_of_ble_eq_true rfl) (Nat.le_of_ble_eq_true rfl) (fun v9 h9 hp9 => ?_)
  obtain ⟨rfl, e9⟩ := hp9
  rw [e9]
  show J Γ h 0 0 4 [(0, .ref a)] []
  refine J_aload_n X (dt tJ1_init 2 rfl) 0 rfl ?_
  refine J_iconst X (nI 0) (dt tJ1_init 3 rfl) (by decide) ?_
  refine p_J1_7_2 X (fs2 := [.int (nI 0), .null, .int (nI 0)]) (dt tJ1_init 4 rfl) ha rfl rfl rfl rfl ?_
  exact J_vret X rr (dt tJ1_init 5 rfl) (Nat.le_of_ble_eq_true rfl) (Nat.le_of_ble_eq_true rfl) ⟨rfl, rfl⟩
set_option maxHeartbeats 4000000 in
theorem c_ACinit3 (l : Launch) (D : va_G) (h : PH) {a : Nat} (ha : h a = some (eo 3 [.int (nI 0), .int (nI 0), .null, .null]))  : Ct l D yJ0_init cJ0_init 1 none (rmC 1 20 0 0) [.ref a] h (PS h none) := by
  refine Ct.of (by decide) rfl (fun Γ X rr hmn => ?_)
  have X : Cx l D cJ0_init RJ0 1 (rmC 1 20 0 0) Γ := X
  show J Γ h 0 0 0 [(0, .ref a)] []
  refine J_aload_n X (dt tJ0_init 0 rfl) 0 rfl ?_
  refine J_objI X (dt tJ0_init 1 rfl) q139 q118 q119 (Nat.le_of_ble_eq_true rfl) (Nat.le_of_ble_eq_true rfl) ?_
  exact J_vret X rr (dt tJ0_init 2 rfl) (Nat.le_of_ble_eq_true rfl) (Nat.le_of_ble_eq_true rfl) ⟨rfl, rfl⟩
set_option maxHeartbeats 4000000 in
theorem c_ALinit3 (l : Launch) (D : va_G) (h : PH) {a : Nat} (ha : h a = some (eo 3 [.int (nI 0), .int (nI 0), .null, .null]))  : Ct l D yJ1_init cJ1_init 1 none (rmC 2 40 0 0) [.ref a] h (PS (pu h a (eo 3 [.int (nI 0), .int (nI 0), .null, .null])) none) := by
  refine Ct.of (by decide) rfl (fun Γ X rr hmn => ?_)
  have X : Cx l D cJ1_init RJ1 1 (rmC 2 40 0 0) Γ := X
  show J Γ h 0 0 0 [(0, .ref a)] []
  refine J_aload_n X (dt tJ1_init 0 rfl) 0 rfl ?_
  refine J_callI (rest := []) X (dt tJ1_init 1 rfl) (c_ACinit3 l D _ ha) (lw_meth q138) q71 q136 q137 rfl okJ0_init rfl ⟨Nat.le_of_ble_eq_true rfl, Nat.le_of_ble_eq_true rfl⟩ rfl (Nat.le_of_ble_eq_true rfl) (Nat.le_of_ble_eq_true rfl) (Nat.le_of_ble_eq_true rfl) (fun v9 h9 hp9 => ?_)
  obtain ⟨rfl, e9⟩ := hp9
  rw [e9]
  show J Γ h 0 0 4 [(0, .ref a)] []
  refine J_aload_n X (dt tJ1_init 2 rfl) 0 rfl ?_
  refine J_iconst X (nI 0) (dt tJ1_init 3 rfl) (by decide) ?_
  refine p_J1_7_3 X (fs2 := [.int (nI 0), .int (nI 0), .null, .null]) (dt tJ1_init 4 rfl) ha rfl rfl rfl rfl ?_
  exact J_vret X rr (dt tJ1_init 5 rfl) (Nat.le_of_ble_eq_true rfl) (Nat.le_of_ble_eq_true rfl) ⟨rfl, rfl⟩
abbrev cJ2_init : ByteArray := prog_44_method_2_code
def yJ2_init : MethodName := ⟨RJ2, "<init>", "()V"⟩
theorem tJ2_init : dtab cJ2_init [(0, .aload_n 0, 1, 1), (1, .invokespecial 1, 3, 4), (4, .aload_n 0, 1, 5), (5, .getstatic 39, 3, 8), (8, .putfield 9, 3, 11), (11, .return_, 1, 12)] := by unfold dtab; decide +kernel
theorem okJ2_init : okY yJ2_init 0 := by decide +kernel
set_option maxHeartbeats 4000000 in
theorem c_LAinit (l : Launch) (D : va_G) (h : PH) {a : Nat} (ha : h a = some (eo 2 [.int (nI 0), .null, .int (nI 0)]))  : Ct l D yJ2_init cJ2_init 1 none (rmC 3 60 0 0) [.ref a] h (PS (pu h a (eo 2 [.int (nI 0), .ref (k0 D), .int (nI 0)])) none) := by
  refine Ct.of (by decide) rfl (fun Γ X rr hmn => ?_)
  have X : Cx l D cJ2_init RJ2 1 (rmC 3 60 0 0) Γ := X
  show J Γ h 0 0 0 [(0, .ref a)] []
  refine J_aload_n X (dt tJ2_init 0 rfl) 0 rfl ?_
  refine J_callI (rest := []) X (dt tJ2_init 1 rfl) (c_ALinit2 l D _ ha) (lw_meth q135) q72 q133 q134 rfl okJ1_init rfl ⟨Nat.le_of_ble_eq_true rfl, Nat.le_of_ble_eq_true rfl⟩ rfl (Nat.le_of_ble_eq_true rfl) (Nat.le_of_ble_eq_true rfl) (Nat.le_of_ble_eq_true rfl) (fun v9 h9 hp9 => ?_)
  obtain ⟨rfl, e9⟩ := hp9
  rw [e9]
  show J Γ (pu h a (eo 2 [.int (nI 0), .null, .int (nI 0)])) 0 0 4 [(0, .ref a)] []
  refine J_aload_n X (dt tJ2_init 2 rfl) 0 rfl ?_
  refine J_getst X (dt tJ2_init 3 rfl) (fun _ _ _ z => z.1) q140 ?_
  refine p_J2_9_2 X (fs2 := [.int (nI 0), .ref (k0 D), .int (nI 0)]) (dt tJ2_init 4 rfl) (pu_s _ _ _) rfl rfl rfl rfl ?_
  refine J_heap (h2 := pu h a (eo 2 [.int (nI 0), .ref (k0 D), .int (nI 0)])) (pu_pu _ _ _ _) ?_
  exact J_vret X rr (dt tJ2_init 5 rfl) (Nat.le_of_ble_eq_true rfl) (Nat.le_of_ble_eq_true rfl) ⟨rfl, rfl⟩
abbrev cJ2_grow_2 : ByteArray := prog_44_method_6_code
def yJ2_grow_2 : MethodName := ⟨RJ2, "grow", "(I)[Ljava/lang/Object;"⟩
theorem tJ2_grow_2 : dtab cJ2_grow_2 [(0, .aload_n 0, 1, 1), (1, .getfield 9, 3, 4), (4, .arraylength, 1, 5), (5, .istore_n 2, 1, 6), (6, .iload_n 2, 1, 7), (7, .ifCond .gt 13, 3, 10), (10, .aload_n 0, 1, 11), (11, .getfield 9, 3, 14), (14, .getstatic 39, 3, 17), (17, .if_acmp .eq 28, 3, 20), (20, .iload_n 2, 1, 21), (21, .iload_n 1, 1, 22), (22, .iload_n 2, 1, 23), (23, .isub, 1, 24), (24, .iload_n 2, 1, 25), (25, .iconst 1, 1, 26), (26, .ishr, 1, 27), (27, .invokestatic 73, 3, 30), (30, .istore_n 3, 1, 31), (31, .aload_n 0, 1, 32), (32, .aload_n 0, 1, 33), (33, .getfield 9, 3, 36), (36, .iload_n 3, 1, 37), (37, .invokestatic 66, 3, 40), (40, .dup_x1, 1, 41), (41, .putfield 9, 3, 44), (44, .areturn, 1, 45), (45, .aload_n 0, 1, 46), (46, .bipush 10, 2, 48), (48, .iload_n 1, 1, 49), (49, .invokestatic 79, 3, 52), (52, .anewarray 7, 3, 55), (55, .dup_x1, 1, 56), (56, .putfield 9, 3, 59), (59, .areturn, 1, 60)] := by unfold dtab; decide +kernel
theorem okJ2_grow_2 : okY yJ2_grow_2 1 := by decide +kernel
set_option maxHeartbeats 4000000 in
theorem c_LAgrow2 (l : Launch) (D : va_G) (h : PH) {a : Nat} {md : Int32} (ha : h a = some (eo 2 [.int md, .ref (k0 D), .int (nI 0)]))  : Ct l D yJ2_grow_2 cJ2_grow_2 4 (some (.array (.object "java/lang/Object"))) (rmC 1 23 1 10) [.ref a, .int (nI 1)] h (fun v h2 => ∃ q, h q = none ∧ v = some (.ref q) ∧ h2 = pu (pu h q (eO 10 (fun _ => none))) a (eo 2 [.int md, .ref q, .int (nI 0)])) := by
  refine Ct.of (by decide) rfl (fun Γ X rr hmn => ?_)
  have X : Cx l D cJ2_grow_2 RJ2 4 (rmC 1 23 1 10) Γ := X
  show J Γ h 0 0 0 [(0, .ref a), (1, .int (nI 1))] []
  refine J_aload_n X (dt tJ2_grow_2 0 rfl) 0 rfl ?_
  refine g_J2_9_2 X (dt tJ2_grow_2 1 rfl) ha rfl ?_
  refine J_alenR X (dt tJ2_grow_2 2 rfl) kr_0 rfl ?_
  show J Γ h 0 0 5 [(0, .ref a), (1, .int (nI 1))] [.int (nI 0)]
  refine J_istore_n X (lv2 := [(2, .int (nI 0)), (0, .ref a), (1, .int (nI 1))]) (dt tJ2_grow_2 3 rfl) rfl rfl rfl ?_
  refine J_iload_n X (dt tJ2_grow_2 4 rfl) 0 rfl ?_
  refine J_if_gt X 20 (dt tJ2_grow_2 5 rfl) (by decide) (fun c9 => absurd c9 (by decide)) (fun _ => ?_)
  refine J_aload_n X (dt tJ2_grow_2 6 rfl) 1 rfl ?_
  refine g_J2_9_2 X (dt tJ2_grow_2 7 rfl) ha rfl ?_
  refine J_getst X (dt tJ2_grow_2 8 rfl) (fun _ _ _ z => z.1) q140 ?_
  refine J_acmp_eq X (some (k0 D)) (some (k0 D)) 45 (dt tJ2_grow_2 9 rfl) (by decide) (fun _ => ?_) (fun c9 => absurd rfl c9)
  refine J_aload_n X (dt tJ2_grow_2 27 rfl) 1 rfl ?_
  refine J_bipush X (nI 10) (dt tJ2_grow_2 28 rfl) (by decide) ?_
  refine J_iload_n X (dt tJ2_grow_2 29 rfl) 2 rfl ?_
  refine J_max X (dt tJ2_grow_2 30 rfl) q306 q258 q78 q259 (Nat.le_of_ble_eq_true rfl) (Nat.le_of_ble_eq_true rfl) (Nat.le_of_ble_eq_true rfl) (Nat.le_of_ble_eq_true rfl) ?_
  refine J_topi (if_neg (by decide)) ?_
  refine J_newO X (N := 10) (dt tJ2_grow_2 31 rfl) q307 q298 (by decide) (Nat.le_of_ble_eq_true rfl) (Nat.le_of_ble_eq_true rfl) (fun q1 fq1 => ?_)
  refine J_dup_x1 X (dt tJ2_grow_2 32 rfl) rfl rfl ?_
  refine p_J2_9_2 X (fs2 := [.int md, .ref q1, .int (nI 0)]) (dt tJ2_grow_2 33 rfl) (pu_o (ne_f ha fq1) ha) rfl rfl rfl rfl ?_
  exact J_aret X rr (dt tJ2_grow_2 34 rfl) (Nat.le_of_ble_eq_true rfl) (Nat.le_of_ble_eq_true rfl) (Or.inr ⟨_, rfl⟩) (Or.inr ⟨_, rfl⟩) ⟨_, fq1, rfl, rfl⟩
abbrev cJ2_grow : ByteArray := prog_44_method_7_code
def yJ2_grow : MethodName := ⟨RJ2, "grow", "()[Ljava/lang/Object;"⟩
theorem tJ2_grow : dtab cJ2_grow [(0, .aload_n 0, 1, 1), (1, .aload_n 0, 1, 2), (2, .getfield 48, 3, 5), (5, .iconst 1, 1, 6), (6, .iadd, 1, 7), (7, .invokevirtual 69, 3, 10), (10, .areturn, 1, 11)] := by unfold dtab; decide +kernel
theorem okJ2_grow : okY yJ2_grow 0 := by decide +kernel
set_option maxHeartbeats 4000000 in
theorem c_LAgrow (l : Launch) (D : va_G) (h : PH) {a : Nat} {md : Int32} (ha : h a = some (eo 2 [.int md, .ref (k0 D), .int (nI 0)]))  : Ct l D yJ2_grow cJ2_grow 1 (some (.array (.object "java/lang/Object"))) (rmC 2 46 1 10) [.ref a] h (fun v h2 => ∃ q, h q = none ∧ v = some (.ref q) ∧ h2 = pu (pu h q (eO 10 (fun _ => none))) a (eo 2 [.int md, .ref q, .int (nI 0)])) := by
  refine Ct.of (by decide) rfl (fun Γ X rr hmn => ?_)
  have X : Cx l D cJ2_grow RJ2 1 (rmC 2 46 1 10) Γ := X
  show J Γ h 0 0 0 [(0, .ref a)] []
  refine J_aload_n X (dt tJ2_grow 0 rfl) 0 rfl ?_
  refine J_aload_n X (dt tJ2_grow 1 rfl) 0 rfl ?_
  refine g_J2_48_2 X (dt tJ2_grow 2 rfl) ha rfl ?_
  refine J_iconst X (nI 1) (dt tJ2_grow 3 rfl) (by decide) ?_
  refine J_iaddN X (dt tJ2_grow 4 rfl) ?_
  refine J_callVR (rest := []) X (T := TJ2) (dt tJ2_grow 5 rfl) (c_LAgrow2 l D _ ha) (lw_V q250 q252 qs2 q73 q253) okJ2_grow_2 rfl (Or.inl ha) rfl ⟨Nat.le_of_ble_eq_true rfl, Nat.le_of_ble_eq_true rfl⟩ rfl (Nat.le_of_ble_eq_true rfl) (Nat.le_of_ble_eq_true rfl) (Nat.le_of_ble_eq_true rfl) (fun v9 h9 hp9 => ?_)
  obtain ⟨q1, fq1, rfl, rfl⟩ := hp9
  show J Γ (pu (pu h q1 (eO 10 (fun _ => none))) a (eo 2 [.int md, .ref q1, .int (nI 0)])) 1 10 10 [(0, .ref a)] [.ref q1]
  exact J_aret X rr (dt tJ2_grow 6 rfl) (Nat.le_of_ble_eq_true rfl) (Nat.le_of_ble_eq_true rfl) (Or.inr ⟨_, rfl⟩) (Or.inr ⟨_, rfl⟩) ⟨_, fq1, rfl, rfl⟩
abbrev cJ2_add_2 : ByteArray := prog_44_method_24_code
def yJ2_add_2 : MethodName := ⟨RJ2, "add", "(Ljava/lang/Object;[Ljava/lang/Object;I)V"⟩
theorem tJ2_add_2 : dtab cJ2_add_2 [(0, .iload_n 3, 1, 1), (1, .aload_n 2, 1, 2), (2, .arraylength, 1, 3), (3, .if_icmp .ne 8, 3, 6), (6, .aload_n 0, 1, 7), (7, .invokevirtual 129, 3, 10), (10, .astore_n 2, 1, 11), (11, .aload_n 2, 1, 12), (12, .iload_n 3, 1, 13), (13, .aload_n 1, 1, 14), (14, .aastore, 1, 15), (15, .aload_n 0, 1, 16), (16, .iload_n 3, 1, 17), (17, .iconst 1, 1, 18), (18, .iadd, 1, 19), (19, .putfield 48, 3, 22), (22, .return_, 1, 23)] := by unfold dtab; decide +kernel
theorem okJ2_add_2 : okY yJ2_add_2 3 := by decide +kernel
set_option maxHeartbeats 4000000 in
theorem c_LAadd20 (l : Launch) (D : va_G) (h : PH) {v : Nat} {w0 o0 : Option Nat} {u : Int64} {n t : Int32} {a : Nat} {md : Int32} (ha : h a = some (eo 2 [.int md, .ref (k0 D), .int (nI 0)])) (hv : h v = some (eo 4 [va_rf w0, va_rf o0, .long u, .int n, .int t]))  : Ct l D yJ2_add_2 cJ2_add_2 4 none (rmC 3 66 1 10) [.ref a, .ref v, .ref (k0 D), .int (nI 0)] h (fun v9 h2 => ∃ q, h q = none ∧ v9 = none ∧ h2 = pu (pu h q (eO 10 (va_up (fun _ => none) 0 (some v)))) a (eo 2 [.int md, .ref q, .int (nI (0 + 1))])) := by
  refine Ct.of (by decide) rfl (fun Γ X rr hmn => ?_)
  have X : Cx l D cJ2_add_2 RJ2 4 (rmC 3 66 1 10) Γ := X
  show J Γ h 0 0 0 [(0, .ref a), (1, .ref v), (2, .ref (k0 D)), (3, .int (nI 0))] []
  refine J_iload_n X (dt tJ2_add_2 0 rfl) 3 rfl ?_
  refine J_aload_n X (dt tJ2_add_2 1 rfl) 2 rfl ?_
  refine J_alenR X (dt tJ2_add_2 2 rfl) kr_0 rfl ?_
  show J Γ h 0 0 3 [(0, .ref a), (1, .ref v), (2, .ref (k0 D)), (3, .int (nI 0))] [.int (nI 0), .int (nI 0)]
  refine J_icmp_ne X 11 (dt tJ2_add_2 3 rfl) (by decide) (fun c9 => absurd c9 (by decide)) (fun _ => ?_)
  refine J_aload_n X (dt tJ2_add_2 4 rfl) 0 rfl ?_
  refine J_callVR (rest := []) X (T := TJ2) (dt tJ2_add_2 5 rfl) (c_LAgrow l D _ ha) (lw_V q246 q248 qs1 q73 q249) okJ2_grow rfl (Or.inl ha) rfl ⟨Nat.le_of_ble_eq_true rfl, Nat.le_of_ble_eq_true rfl⟩ rfl (Nat.le_of_ble_eq_true rfl) (Nat.le_of_ble_eq_true rfl) (Nat.le_of_ble_eq_true rfl) (fun v9 h9 hp9 => ?_)
  obtain ⟨q1, fq1, rfl, rfl⟩ := hp9
  show J Γ (pu (pu h q1 (eO 10 (fun _ => none))) a (eo 2 [.int md, .ref q1, .int (nI 0)])) 1 10 10 [(0, .ref a), (1, .ref v), (2, .ref (k0 D)), (3, .int (nI 0))] [.ref q1]
  refine J_astore_n X (lv2 := [(2, .ref q1), (0, .ref a), (1, .ref v), (3, .int (nI 0))]) (dt tJ2_add_2 6 rfl) rfl rfl rfl ?_
  refine J_aload_n X (dt tJ2_add_2 7 rfl) 0 rfl ?_
  refine J_iload_n X (dt tJ2_add_2 8 rfl) 3 rfl ?_
  refine J_aload_n X (dt tJ2_add_2 9 rfl) 2 rfl ?_
  refine J_oast X (r := (RX2, TX2, 5))  (dt tJ2_add_2 10 rfl) (pu_o (Ne.symm (ne_f ha fq1)) (pu_s _ _ _)) (pu_o (ne_c hv ha (by decide)) (pu_o (ne_f hv fq1) hv)) rfl q2155 (by decide) (by decide) ?_
  refine J_heap (h2 := pu (pu h a (eo 2 [.int md, .ref q1, .int (nI 0)])) q1 (eO 10 (va_up (fun _ => none) 0 (some v)))) (pu_dr1 (Ne.symm (ne_f ha fq1))) ?_
  refine J_aload_n X (dt tJ2_add_2 11 rfl) 1 rfl ?_
  refine J_iload_n X (dt tJ2_add_2 12 rfl) 3 rfl ?_
  refine J_iconst X (nI 1) (dt tJ2_add_2 13 rfl) (by decide) ?_
  refine J_iaddN X (dt tJ2_add_2 14 rfl) ?_
  refine p_J2_48_2 X (fs2 := [.int md, .ref q1, .int (nI (0 + 1))]) (dt tJ2_add_2 15 rfl) (pu_o (ne_f ha fq1) (pu_s _ _ _)) rfl rfl rfl rfl ?_
  refine J_heap (h2 := pu (pu h q1 (eO 10 (va_up (fun _ => none) 0 (some v)))) a (eo 2 [.int md, .ref q1, .int (nI (0 + 1))])) (pu_dr1 (ne_f ha fq1)) ?_
  exact J_vret X rr (dt tJ2_add_2 16 rfl) (Nat.le_of_ble_eq_true rfl) (Nat.le_of_ble_eq_true rfl) ⟨_, fq1, rfl, rfl⟩
set_option maxHeartbeats 4000000 in
theorem c_LAadd2S (l : Launch) (D : va_G) (h : PH) {v : Nat} {w0 o0 : Option Nat} {u : Int64} {n t : Int32} {a ea s : Nat} {md : Int32} {f : Nat → Option Nat} (ha : h a = some (eo 2 [.int md, .ref ea, .int (nI s)])) (hv : h v = some (eo 4 [va_rf w0, va_rf o0, .long u, .int n, .int t])) (he : h ea = some (eO 10 f)) (hs : s < 10) : Ct l D yJ2_add_2 cJ2_add_2 4 none (rmC 3 66 1 10) [.ref a, .ref v, .ref ea, .int (nI s)] h (PS (pu (pu h ea (eO 10 (va_up f s (some v)))) a (eo 2 [.int md, .ref ea, .int (nI (s + 1))])) none) := by
  refine Ct.of (by decide) rfl (fun Γ X rr hmn => ?_)
  have X : Cx l D cJ2_add_2 RJ2 4 (rmC 3 66 1 10) Γ := X
  show J Γ h 0 0 0 [(0, .ref a), (1, .ref v), (2, .ref ea), (3, .int (nI s))] []
  refine J_iload_n X (dt tJ2_add_2 0 rfl) 3 rfl ?_
  refine J_aload_n X (dt tJ2_add_2 1 rfl) 2 rfl ?_
  refine J_alen X (dt tJ2_add_2 2 rfl) he rfl ?_
  show J Γ h 0 0 3 [(0, .ref a), (1, .ref v), (2, .ref ea), (3, .int (nI s))] [.int (nI 10), .int (nI s)]
  refine J_icmp_ne X 11 (dt tJ2_add_2 3 rfl) (by decide) (fun _ => ?_) (fun c9 => absurd c9 (fun z => absurd ((nI_eq (by omega) (by omega)).mp z) (by omega)))
  refine J_aload_n X (dt tJ2_add_2 7 rfl) 2 rfl ?_
  refine J_iload_n X (dt tJ2_add_2 8 rfl) 3 rfl ?_
  refine J_aload_n X (dt tJ2_add_2 9 rfl) 1 rfl ?_
  refine J_oast X (r := (RX2, TX2, 5))  (dt tJ2_add_2 10 rfl) he hv rfl q2155 (by omega) (by decide) ?_
  refine J_aload_n X (dt tJ2_add_2 11 rfl) 0 rfl ?_
  refine J_iload_n X (dt tJ2_add_2 12 rfl) 3 rfl ?_
  refine J_iconst X (nI 1) (dt tJ2_add_2 13 rfl) (by decide) ?_
  refine J_iaddN X (dt tJ2_add_2 14 rfl) ?_
  refine p_J2_48_2 X (fs2 := [.int md, .ref ea, .int (nI (s + 1))]) (dt tJ2_add_2 15 rfl) (pu_o (ne_oa ha he) ha) rfl rfl rfl rfl ?_
  exact J_vret X rr (dt tJ2_add_2 16 rfl) (Nat.le_of_ble_eq_true rfl) (Nat.le_of_ble_eq_true rfl) ⟨rfl, rfl⟩
abbrev cJ2_add : ByteArray := prog_44_method_25_code
def yJ2_add : MethodName := ⟨RJ2, "add", "(Ljava/lang/Object;)Z"⟩
theorem tJ2_add : dtab cJ2_add [(0, .aload_n 0, 1, 1), (1, .dup, 1, 2), (2, .getfield 63, 3, 5), (5, .iconst 1, 1, 6), (6, .iadd, 1, 7), (7, .putfield 63, 3, 10), (10, .aload_n 0, 1, 11), (11, .aload_n 1, 1, 12), (12, .aload_n 0, 1, 13), (13, .getfield 9, 3, 16), (16, .aload_n 0, 1, 17), (17, .getfield 48, 3, 20), (20, .invokevirtual 131, 3, 23), (23, .iconst 1, 1, 24), (24, .ireturn, 1, 25)] := by unfold dtab; decide +kernel
theorem okJ2_add : okY yJ2_add 1 := by decide +kernel
set_option maxHeartbeats 4000000 in
theorem c_LAadd0 (l : Launch) (D : va_G) (h : PH) {v : Nat} {w0 o0 : Option Nat} {u : Int64} {n t : Int32} {a : Nat} {md : Int32} (ha : h a = some (eo 2 [.int md, .ref (k0 D), .int (nI 0)])) (hv : h v = some (eo 4 [va_rf w0, va_rf o0, .long u, .int n, .int t]))  : Ct l D yJ2_add cJ2_add 2 (some .boolean) (rmC 4 89 1 10) [.ref a, .ref v] h (fun v9 h2 => ∃ q, h q = none ∧ v9 = some (.int (nI 1)) ∧ h2 = pu (pu h q (eO 10 (va_up (fun _ => none) 0 (some v)))) a (eo 2 [.int (md + nI 1), .ref q, .int (nI (0 + 1))])) := by
  refine Ct.of (by decide) rfl (fun Γ X rr hmn => ?_)
  have X : Cx l D cJ2_add RJ2 2 (rmC 4 89 1 10) Γ := X
  show J Γ h 0 0 0 [(0, .ref a), (1, .ref v)] []
  refine J_aload_n X (dt tJ2_add 0 rfl) 0 rfl ?_
  refine J_dup X (dt tJ2_add 1 rfl) rfl ?_
  refine g_J2_63_2 X (dt tJ2_add 2 rfl) ha rfl ?_
  refine J_iconst X (nI 1) (dt tJ2_add 3 rfl) (by decide) ?_
  refine J_iadd X (dt tJ2_add 4 rfl) ?_
  refine p_J2_63_2 X (fs2 := [.int (md + (nI 1)), .ref (k0 D), .int (nI 0)]) (dt tJ2_add 5 rfl) ha rfl rfl rfl rfl ?_
  refine J_aload_n X (dt tJ2_add 6 rfl) 0 rfl ?_
  refine J_aload_n X (dt tJ2_add 7 rfl) 1 rfl ?_
  refine J_aload_n X (dt tJ2_add 8 rfl) 0 rfl ?_
  refine g_J2_9_2 X (dt tJ2_add 9 rfl) (pu_s _ _ _) rfl ?_
  refine J_aload_n X (dt tJ2_add 10 rfl) 0 rfl ?_
  refine g_J2_48_2 X (dt tJ2_add 11 rfl) (pu_s _ _ _) rfl ?_
  refine J_callVR (rest := []) X (T := TJ2) (dt tJ2_add 12 rfl) (c_LAadd20 l D _ (pu_s _ _ _) (pu_o (ne_c hv ha (by decide)) hv)) (lw_V q242 q244 qs0 q73 q245) okJ2_add_2 rfl (Or.inl (pu_s _ _ _)) rfl ⟨Nat.le_of_ble_eq_true rfl, Nat.le_of_ble_eq_true rfl⟩ rfl (Nat.le_of_ble_eq_true rfl) (Nat.le_of_ble_eq_true rfl) (Nat.le_of_ble_eq_true rfl) (fun v9 h9 hp9 => ?_)
  obtain ⟨q1, fq1, rfl, rfl⟩ := hp9
  refine J_heap (h2 := pu (pu h q1 (eO 10 (va_up (fun _ => none) 0 (some v)))) a (eo 2 [.int (md + (nI 1)), .ref q1, .int (nI (0 + 1))])) (pu_dr1 (ne_f (pu_s _ _ _) fq1)) ?_
  show J Γ (pu (pu h q1 (eO 10 (va_up (fun _ => none) 0 (some v)))) a (eo 2 [.int (md + (nI 1)), .ref q1, .int (nI (0 + 1))])) 1 10 23 [(0, .ref a), (1, .ref v)] []
  refine J_iconst X (nI 1) (dt tJ2_add 13 rfl) (by decide) ?_
  exact J_zret X rr (dt tJ2_add 14 rfl) (Nat.le_of_ble_eq_true rfl) (Nat.le_of_ble_eq_true rfl) rfl ⟨_, (pu_none fq1).2, rfl, rfl⟩
set_option maxHeartbeats 4000000 in
theorem c_LAaddS (l : Launch) (D : va_G) (h : PH) {v : Nat} {w0 o0 : Option Nat} {u : Int64} {n t : Int32} {a ea s : Nat} {md : Int32} {f : Nat → Option Nat} (ha : h a = some (eo 2 [.int md, .ref ea, .int (nI s)])) (hv : h v = some (eo 4 [va_rf w0, va_rf o0, .long u, .int n, .int t])) (he : h ea = some (eO 10 f)) (hs : s < 10) : Ct l D yJ2_add cJ2_add 2 (some .boolean) (rmC 4 89 1 10) [.ref a, .ref v] h (PS (pu (pu h ea (eO 10 (va_up f s (some v)))) a (eo 2 [.int (md + nI 1), .ref ea, .int (nI (s + 1))])) (some (.int (nI 1)))) := by
  refine Ct.of (by decide) rfl (fun Γ X rr hmn => ?_)
  have X : Cx l D cJ2_add RJ2 2 (rmC 4 89 1 10) Γ := X
  show J Γ h 0 0 0 [(0, .ref a), (1, .ref v)] []
  refine J_aload_n X (dt tJ2_add 0 rfl) 0 rfl ?_
  refine J_dup X (dt tJ2_add 1 rfl) rfl ?_
  refine g_J2_63_2 X (dt tJ2_add 2 rfl) ha rfl ?_
  refine J_iconst X (nI 1) (dt tJ2_add 3 rfl) (by decide) ?_
  refine J_iadd X (dt tJ2_add 4 rfl) ?_
  refine p_J2_63_2 X (fs2 := [.int (md + (nI 1)), .ref ea, .int (nI s)]) (dt tJ2_add 5 rfl) ha rfl rfl rfl rfl ?_
  refine J_aload_n X (dt tJ2_add 6 rfl) 0 rfl ?_
  refine J_aload_n X (dt tJ2_add 7 rfl) 1 rfl ?_
  refine J_aload_n X (dt tJ2_add 8 rfl) 0 rfl ?_
  refine g_J2_9_2 X (dt tJ2_add 9 rfl) (pu_s _ _ _) rfl ?_
  refine J_aload_n X (dt tJ2_add 10 rfl) 0 rfl ?_
  refine g_J2_48_2 X (dt tJ2_add 11 rfl) (pu_s _ _ _) rfl ?_
  refine J_callVR (rest := []) X (T := TJ2) (dt tJ2_add 12 rfl) (c_LAadd2S l D _ (pu_s _ _ _) (pu_o (ne_c hv ha (by decide)) hv) (pu_o (Ne.symm (ne_oa ha he)) he) (by omega)) (lw_V q242 q244 qs0 q73 q245) okJ2_add_2 rfl (Or.inl (pu_s _ _ _)) rfl ⟨Nat.le_of_ble_eq_true rfl, Nat.le_of_ble_eq_true rfl⟩ rfl (Nat.le_of_ble_eq_true rfl) (Nat.le_of_ble_eq_true rfl) (Nat.le_of_ble_eq_true rfl) (fun v9 h9 hp9 => ?_)
  obtain ⟨rfl, e9⟩ := hp9
  rw [e9]
  refine J_heap (h2 := pu (pu h ea (eO 10 (va_up f s (some v)))) a (eo 2 [.int (md + (nI 1)), .ref ea, .int (nI (s + 1))])) (pu_dr1 (ne_oa ha he)) ?_
  show J Γ (pu (pu h ea (eO 10 (va_up f s (some v)))) a (eo 2 [.int (md + (nI 1)), .ref ea, .int (nI (s + 1))])) 1 10 23 [(0, .ref a), (1, .ref v)] []
  refine J_iconst X (nI 1) (dt tJ2_add 13 rfl) (by decide) ?_
  exact J_zret X rr (dt tJ2_add 14 rfl) (Nat.le_of_ble_eq_true rfl) (Nat.le_of_ble_eq_true rfl) rfl ⟨rfl, rfl⟩
