/-! printed by gen/compw.py -/
set_option maxRecDepth 100000
theorem q93 : (Jvm.Cond.initialized "LeadRaces$Runner") ∈ lw_all := lw_g (lw_at lw_m1 25 rfl) rfl
theorem q499 : (Jvm.Cond.instantiable "LeadRaces$Runner" (4 : Nat)) ∈ lw_all := lw_g (lw_at lw_m2 191 rfl) rfl
theorem q501 : (Jvm.Cond.instanceMethod ({ cls := "LeadRaces$Runner", name := "<init>", desc := "(III)V" } : Jvm.MethodName)) ∈ lw_all := lw_g (lw_at lw_m2 193 rfl) rfl
theorem q502 : (Jvm.Cond.code ({ cls := "LeadRaces$Runner", name := "<init>", desc := "(III)V" } : Jvm.MethodName) prog_9_method_1_code (4 : Nat) (Option.none : Option Jvm.ClassFile.FieldType)) ∈ lw_all := lw_g (lw_at lw_m2 194 rfl) rfl
theorem q503 : (Jvm.Cond.methodLink "LeadRaces$Runner" (3 : Nat) ({ cls := "java/lang/Object", name := "<init>", desc := "()V" } : Jvm.MethodName)) ∈ lw_all := lw_g (lw_at lw_m2 195 rfl) rfl
theorem q504 : (Jvm.Cond.fieldLink "LeadRaces$Runner" (9 : Nat) "LeadRaces$Runner" "lane" "I") ∈ lw_all := lw_g (lw_at lw_m2 196 rfl) rfl
theorem q506 : (Jvm.Cond.fieldLink "LeadRaces$Runner" (15 : Nat) "LeadRaces$Runner" "place" "I") ∈ lw_all := lw_g (lw_at lw_m2 198 rfl) rfl
theorem q509 : (Jvm.Cond.fieldLink "LeadRaces$Runner" (18 : Nat) "LeadRaces$Runner" "speed" "I") ∈ lw_all := lw_g (lw_at lw_m2 201 rfl) rfl
theorem q512 : (Jvm.Cond.fieldLink "LeadRaces$Runner" (24 : Nat) "LeadRaces$Runner" "led" "I") ∈ lw_all := lw_g (lw_at lw_m2 204 rfl) rfl
theorem q564 : (Jvm.Cond.classLink "LeadRaces$Runner" (10 : Nat) "LeadRaces$Runner") ∈ lw_all := lw_g (lw_at lw_m3 16 rfl) rfl
theorem q565 : (Jvm.Cond.methodLink "LeadRaces$Runner" (33 : Nat) ({ cls := "LeadRaces$Runner", name := "isAhead", desc := "(LLeadRaces$Runner;)Z" } : Jvm.MethodName)) ∈ lw_all := lw_g (lw_at lw_m3 17 rfl) rfl
theorem q566 : (Jvm.Cond.instanceMethod ({ cls := "LeadRaces$Runner", name := "isAhead", desc := "(LLeadRaces$Runner;)Z" } : Jvm.MethodName)) ∈ lw_all := lw_g (lw_at lw_m3 18 rfl) rfl
theorem q567 : (Jvm.Cond.selects "LeadRaces$Runner" ({ cls := "LeadRaces$Runner", name := "isAhead", desc := "(LLeadRaces$Runner;)Z" } : Jvm.MethodName) ({ cls := "LeadRaces$Runner", name := "isAhead", desc := "(LLeadRaces$Runner;)Z" } : Jvm.MethodName)) ∈ lw_all := lw_g (lw_at lw_m3 19 rfl) rfl
theorem q568 : (Jvm.Cond.code ({ cls := "LeadRaces$Runner", name := "isAhead", desc := "(LLeadRaces$Runner;)Z" } : Jvm.MethodName) prog_9_method_3_code (2 : Nat) (Option.some Jvm.ClassFile.FieldType.boolean)) ∈ lw_all := lw_g (lw_at lw_m3 20 rfl) rfl
theorem q578 : (Jvm.Cond.methodLink "LeadRaces$Runner" (29 : Nat) ({ cls := "LeadRaces$Runner", name := "lasts", desc := "(LLeadRaces$Runner;)J" } : Jvm.MethodName)) ∈ lw_all := lw_g (lw_at lw_m3 30 rfl) rfl
theorem q579 : (Jvm.Cond.instanceMethod ({ cls := "LeadRaces$Runner", name := "lasts", desc := "(LLeadRaces$Runner;)J" } : Jvm.MethodName)) ∈ lw_all := lw_g (lw_at lw_m3 31 rfl) rfl
theorem q580 : (Jvm.Cond.selects "LeadRaces$Runner" ({ cls := "LeadRaces$Runner", name := "lasts", desc := "(LLeadRaces$Runner;)J" } : Jvm.MethodName) ({ cls := "LeadRaces$Runner", name := "lasts", desc := "(LLeadRaces$Runner;)J" } : Jvm.MethodName)) ∈ lw_all := lw_g (lw_at lw_m3 32 rfl) rfl
theorem q581 : (Jvm.Cond.code ({ cls := "LeadRaces$Runner", name := "lasts", desc := "(LLeadRaces$Runner;)J" } : Jvm.MethodName) prog_9_method_4_code (6 : Nat) (Option.some Jvm.ClassFile.FieldType.long)) ∈ lw_all := lw_g (lw_at lw_m3 33 rfl) rfl
theorem q582 : (Jvm.Cond.constantLong "LeadRaces$Runner" (27 : Nat) (9223372036854775807 : Int64)) ∈ lw_all := lw_g (lw_at lw_m3 34 rfl) rfl
theorem q621 : (Jvm.Cond.methodLink "LeadRaces$Lead" (1 : Nat) ({ cls := "java/lang/Object", name := "<init>", desc := "()V" } : Jvm.MethodName)) ∈ lw_all := lw_g (lw_at lw_m3 73 rfl) rfl
theorem q622 : (Jvm.Cond.fieldLink "LeadRaces$Lead" (7 : Nat) "LeadRaces$Lead" "lane" "I") ∈ lw_all := lw_g (lw_at lw_m3 74 rfl) rfl
theorem q625 : (Jvm.Cond.fieldLink "LeadRaces$Lead" (13 : Nat) "LeadRaces$Lead" "moment" "I") ∈ lw_all := lw_g (lw_at lw_m3 77 rfl) rfl
theorem q688 : (Jvm.Cond.methodLink "LeadRaces$Runner" (21 : Nat) ({ cls := "LeadRaces$Runner", name := "<init>", desc := "(III)V" } : Jvm.MethodName)) ∈ lw_all := lw_g (lw_at lw_m3 140 rfl) rfl
section
variable {l : Launch} {D : va_G} {cc : ByteArray} {nL : Nat} {rm : Room} {Γ : Cxt} {h : PH} {k n pc nx : Nat} {lv : List (Nat × Value)} {st : List Value}
theorem p_X5_9_10 (X : Cx l D cc RX5 nL rm Γ) (hmn : Mn "<init>" Γ) {a : Nat} {fs fs2 : List Value} {v : Value} (d : At cc pc (.putfield 9) 3 nx) (ha : h a = some (eo 10 fs)) (hn : narrow (.int) v = v) (hfit : fits (.int) v = true) (hl2 : Nat.ble (0 + 1) fs.length = true) (hfs : fs.set 0 v = fs2) (kk : J Γ (pu h a (eo 10 fs2)) k n nx lv st) : J Γ h k n pc lv (v :: .ref a :: st) := J_putF X hmn (kf := 0) (tf := tyX5) d ha (show vwCl[10]? = some (RX5, TX5, 4) from rfl) in_X5 tyX5_ok nmX5 rfl q504 rfl rfl rfl rfl hn hfit hl2 hfs kk
theorem p_X5_15_10 (X : Cx l D cc RX5 nL rm Γ) {a : Nat} {fs fs2 : List Value} {v : Value} (d : At cc pc (.putfield 15) 3 nx) (ha : h a = some (eo 10 fs)) (hn : narrow (.int) v = v) (hfit : fits (.int) v = true) (hl2 : Nat.ble (1 + 1) fs.length = true) (hfs : fs.set 1 v = fs2) (kk : J Γ (pu h a (eo 10 fs2)) k n nx lv st) : J Γ h k n pc lv (v :: .ref a :: st) := J_put X (kf := 1) (tf := tyX5) d ha (show vwCl[10]? = some (RX5, TX5, 4) from rfl) in_X5 tyX5_ok nmX5 rfl q506 rfl rfl rfl hn hfit hl2 hfs kk
theorem p_X5_18_10 (X : Cx l D cc RX5 nL rm Γ) {a : Nat} {fs fs2 : List Value} {v : Value} (d : At cc pc (.putfield 18) 3 nx) (ha : h a = some (eo 10 fs)) (hn : narrow (.int) v = v) (hfit : fits (.int) v = true) (hl2 : Nat.ble (2 + 1) fs.length = true) (hfs : fs.set 2 v = fs2) (kk : J Γ (pu h a (eo 10 fs2)) k n nx lv st) : J Γ h k n pc lv (v :: .ref a :: st) := J_put X (kf := 2) (tf := tyX5) d ha (show vwCl[10]? = some (RX5, TX5, 4) from rfl) in_X5 tyX5_ok nmX5 rfl q509 rfl rfl rfl hn hfit hl2 hfs kk
theorem p_X6_7_11 (X : Cx l D cc RX6 nL rm Γ) (hmn : Mn "<init>" Γ) {a : Nat} {fs fs2 : List Value} {v : Value} (d : At cc pc (.putfield 7) 3 nx) (ha : h a = some (eo 11 fs)) (hn : narrow (.int) v = v) (hfit : fits (.int) v = true) (hl2 : Nat.ble (0 + 1) fs.length = true) (hfs : fs.set 0 v = fs2) (kk : J Γ (pu h a (eo 11 fs2)) k n nx lv st) : J Γ h k n pc lv (v :: .ref a :: st) := J_putF X hmn (kf := 0) (tf := tyX6) d ha (show vwCl[11]? = some (RX6, TX6, 2) from rfl) in_X6 tyX6_ok nmX6 rfl q622 rfl rfl rfl rfl hn hfit hl2 hfs kk
theorem p_X6_13_11 (X : Cx l D cc RX6 nL rm Γ) (hmn : Mn "<init>" Γ) {a : Nat} {fs fs2 : List Value} {v : Value} (d : At cc pc (.putfield 13) 3 nx) (ha : h a = some (eo 11 fs)) (hn : narrow (.int) v = v) (hfit : fits (.int) v = true) (hl2 : Nat.ble (1 + 1) fs.length = true) (hfs : fs.set 1 v = fs2) (kk : J Γ (pu h a (eo 11 fs2)) k n nx lv st) : J Γ h k n pc lv (v :: .ref a :: st) := J_putF X hmn (kf := 1) (tf := tyX6) d ha (show vwCl[11]? = some (RX6, TX6, 2) from rfl) in_X6 tyX6_ok nmX6 rfl q625 rfl rfl rfl rfl hn hfit hl2 hfs kk
theorem n_X5_10 (X : Cx l D cc RX5 nL rm Γ) (d : At cc pc (.new 10) 3 nx) (hk : k + 1 ≤ rm.cells) (hn : n + 4 ≤ rm.slots) (kk : ∀ q, h q = none → J Γ (pu h q (eo 10 [.int (nI 0), .int (nI 0), .int (nI 0), .int (nI 0)])) (k + 1) (n + 4) nx lv (.ref q :: st)) : J Γ h k n pc lv st := J_new X (tf := tyX5) d (show vwCl[10]? = some (RX5, TX5, 4) from rfl) in_X5 tyX5_ok q564 q499 q93 (by decide) hk hn kk
theorem g_X5_9_10 (X : Cx l D cc RX5 nL rm Γ) {a : Nat} {fs : List Value} {v : Value} (d : At cc pc (.getfield 9) 3 nx) (ha : h a = some (eo 10 fs)) (hv : fs[0]? = some v) (kk : J Γ h k n nx lv (v :: st)) : J Γ h k n pc lv (.ref a :: st) := J_get X (kf := 0) d ha (show vwCl[10]? = some (RX5, TX5, 4) from rfl) in_X5 rfl q504 rfl hv kk
theorem g_X5_15_10 (X : Cx l D cc RX5 nL rm Γ) {a : Nat} {fs : List Value} {v : Value} (d : At cc pc (.getfield 15) 3 nx) (ha : h a = some (eo 10 fs)) (hv : fs[1]? = some v) (kk : J Γ h k n nx lv (v :: st)) : J Γ h k n pc lv (.ref a :: st) := J_get X (kf := 1) d ha (show vwCl[10]? = some (RX5, TX5, 4) from rfl) in_X5 rfl q506 rfl hv kk
theorem g_X5_18_10 (X : Cx l D cc RX5 nL rm Γ) {a : Nat} {fs : List Value} {v : Value} (d : At cc pc (.getfield 18) 3 nx) (ha : h a = some (eo 10 fs)) (hv : fs[2]? = some v) (kk : J Γ h k n nx lv (v :: st)) : J Γ h k n pc lv (.ref a :: st) := J_get X (kf := 2) d ha (show vwCl[10]? = some (RX5, TX5, 4) from rfl) in_X5 rfl q509 rfl hv kk
theorem g_X5_24_10 (X : Cx l D cc RX5 nL rm Γ) {a : Nat} {fs : List Value} {v : Value} (d : At cc pc (.getfield 24) 3 nx) (ha : h a = some (eo 10 fs)) (hv : fs[3]? = some v) (kk : J Γ h k n nx lv (v :: st)) : J Γ h k n pc lv (.ref a :: st) := J_get X (kf := 3) d ha (show vwCl[10]? = some (RX5, TX5, 4) from rfl) in_X5 rfl q512 rfl hv kk
theorem p_X5_24_10 (X : Cx l D cc RX5 nL rm Γ) {a : Nat} {fs fs2 : List Value} {v : Value} (d : At cc pc (.putfield 24) 3 nx) (ha : h a = some (eo 10 fs)) (hn : narrow (.int) v = v) (hfit : fits (.int) v = true) (hl2 : Nat.ble (3 + 1) fs.length = true) (hfs : fs.set 3 v = fs2) (kk : J Γ (pu h a (eo 10 fs2)) k n nx lv st) : J Γ h k n pc lv (v :: .ref a :: st) := J_put X (kf := 3) (tf := tyX5) d ha (show vwCl[10]? = some (RX5, TX5, 4) from rfl) in_X5 tyX5_ok nmX5 rfl q512 rfl rfl rfl hn hfit hl2 hfs kk
end
abbrev cX5_init : ByteArray := prog_9_method_1_code
def yX5_init : MethodName := ⟨RX5, "<init>", "(III)V"⟩
theorem tX5_init : dtab cX5_init [(0, .aload_n 0, 1, 1), (1, .invokespecial 3, 3, 4), (4, .aload_n 0, 1, 5), (5, .iload_n 1, 1, 6), (6, .putfield 9, 3, 9), (9, .aload_n 0, 1, 10), (10, .iload_n 2, 1, 11), (11, .putfield 15, 3, 14), (14, .aload_n 0, 1, 15), (15, .iload_n 3, 1, 16), (16, .putfield 18, 3, 19), (19, .return_, 1, 20)] := by unfold dtab; decide +kernel
theorem okX5_init : okY yX5_init 3 := by decide +kernel
set_option maxHeartbeats 4000000 in
theorem c_Rinit (l : Launch) (D : va_G) (h : PH) {a : Nat} (ln pl sp : Int32) (ha : h a = some (eo 10 [.int (nI 0), .int (nI 0), .int (nI 0), .int (nI 0)]))  : Ct l D yX5_init cX5_init 4 none (rmC 1 20 0 0) [.ref a, .int ln, .int pl, .int sp] h (PS (pu h a (eo 10 [.int ln, .int pl, .int sp, .int (nI 0)])) none) := by
  refine Ct.of (by decide) rfl (fun Γ X rr hmn => ?_)
  have X : Cx l D cX5_init RX5 4 (rmC 1 20 0 0) Γ := X
  show J Γ h 0 0 0 [(0, .ref a), (1, .int ln), (2, .int pl), (3, .int sp)] []
  refine J_aload_n X (dt tX5_init 0 rfl) 0 rfl ?_
  refine J_objI X (dt tX5_init 1 rfl) q503 q118 q119 (Nat.le_of_ble_eq_true rfl) (Nat.le_of_ble_eq_true rfl) ?_
  refine J_aload_n X (dt tX5_init 2 rfl) 0 rfl ?_
  refine J_iload_n X (dt tX5_init 3 rfl) 1 rfl ?_
  refine p_X5_9_10 X hmn (fs2 := [.int ln, .int (nI 0), .int (nI 0), .int (nI 0)]) (dt tX5_init 4 rfl) ha rfl rfl rfl rfl ?_
  refine J_aload_n X (dt tX5_init 5 rfl) 0 rfl ?_
  refine J_iload_n X (dt tX5_init 6 rfl) 2 rfl ?_
  refine p_X5_15_10 X (fs2 := [.int ln, .int pl, .int (nI 0), .int (nI 0)]) (dt tX5_init 7 rfl) (pu_s _ _ _) rfl rfl rfl rfl ?_
  refine J_heap (h2 := pu h a (eo 10 [.int ln, .int pl, .int (nI 0), .int (nI 0)])) (pu_pu _ _ _ _) ?_
  refine J_aload_n X (dt tX5_init 8 rfl) 0 rfl ?_
  refine J_iload_n X (dt tX5_init 9 rfl) 3 rfl ?_
  refine p_X5_18_10 X (fs2 := [.int ln, .int pl, .int sp, .int (nI 0)]) (dt tX5_init 10 rfl) (pu_s _ _ _) rfl rfl rfl rfl ?_
  refine J_heap (h2 := pu h a (eo 10 [.int ln, .int pl, .int sp, .int (nI 0)])) (pu_pu _ _ _ _) ?_
  exact J_vret X rr (dt tX5_init 11 rfl) (Nat.le_of_ble_eq_true rfl) (Nat.le_of_ble_eq_true rfl) ⟨rfl, rfl⟩
abbrev cX6_init : ByteArray := prog_4_method_1_code
def yX6_init : MethodName := ⟨RX6, "<init>", "(II)V"⟩
theorem tX6_init : dtab cX6_init [(0, .aload_n 0, 1, 1), (1, .invokespecial 1, 3, 4), (4, .aload_n 0, 1, 5), (5, .iload_n 1, 1, 6), (6, .putfield 7, 3, 9), (9, .aload_n 0, 1, 10), (10, .iload_n 2, 1, 11), (11, .putfield 13, 3, 14), (14, .return_, 1, 15)] := by unfold dtab; decide +kernel
theorem okX6_init : okY yX6_init 2 := by decide +kernel
set_option maxHeartbeats 4000000 in
theorem c_Linit (l : Launch) (D : va_G) (h : PH) {a : Nat} (ln mo : Int32) (ha : h a = some (eo 11 [.int (nI 0), .int (nI 0)]))  : Ct l D yX6_init cX6_init 3 none (rmC 1 20 0 0) [.ref a, .int ln, .int mo] h (PS (pu h a (eo 11 [.int ln, .int mo])) none) := by
  refine Ct.of (by decide) rfl (fun Γ X rr hmn => ?_)
  have X : Cx l D cX6_init RX6 3 (rmC 1 20 0 0) Γ := X
  show J Γ h 0 0 0 [(0, .ref a), (1, .int ln), (2, .int mo)] []
  refine J_aload_n X (dt tX6_init 0 rfl) 0 rfl ?_
  refine J_objI X (dt tX6_init 1 rfl) q621 q118 q119 (Nat.le_of_ble_eq_true rfl) (Nat.le_of_ble_eq_true rfl) ?_
  refine J_aload_n X (dt tX6_init 2 rfl) 0 rfl ?_
  refine J_iload_n X (dt tX6_init 3 rfl) 1 rfl ?_
  refine p_X6_7_11 X hmn (fs2 := [.int ln, .int (nI 0)]) (dt tX6_init 4 rfl) ha rfl rfl rfl rfl ?_
  refine J_aload_n X (dt tX6_init 5 rfl) 0 rfl ?_
  refine J_iload_n X (dt tX6_init 6 rfl) 2 rfl ?_
  refine p_X6_13_11 X hmn (fs2 := [.int ln, .int mo]) (dt tX6_init 7 rfl) (pu_s _ _ _) rfl rfl rfl rfl ?_
  refine J_heap (h2 := pu h a (eo 11 [.int ln, .int mo])) (pu_pu _ _ _ _) ?_
  exact J_vret X rr (dt tX6_init 8 rfl) (Nat.le_of_ble_eq_true rfl) (Nat.le_of_ble_eq_true rfl) ⟨rfl, rfl⟩
abbrev cX5_copy : ByteArray := prog_9_method_2_code
def yX5_copy : MethodName := ⟨RX5, "copy", "()LLeadRaces$Runner;"⟩
theorem tX5_copy : dtab cX5_copy [(0, .new 10, 3, 3), (3, .dup, 1, 4), (4, .aload_n 0, 1, 5), (5, .getfield 9, 3, 8), (8, .aload_n 0, 1, 9), (9, .getfield 15, 3, 12), (12, .aload_n 0, 1, 13), (13, .getfield 18, 3, 16), (16, .invokespecial 21, 3, 19), (19, .astore_n 1, 1, 20), (20, .aload_n 1, 1, 21), (21, .aload_n 0, 1, 22), (22, .getfield 24, 3, 25), (25, .putfield 24, 3, 28), (28, .aload_n 1, 1, 29), (29, .areturn, 1, 30)] := by unfold dtab; decide +kernel
theorem okX5_copy : okY yX5_copy 0 := by decide +kernel
set_option maxHeartbeats 4000000 in
theorem c_Rcopy (l : Launch) (D : va_G) (h : PH) {a : Nat} {ln pl sp ld : Int32} (ha : h a = some (eo 10 [.int ln, .int pl, .int sp, .int ld]))  : Ct l D yX5_copy cX5_copy 2 (some (.object "LeadRaces$Runner")) (rmC 2 43 1 4) [.ref a] h (fun v h2 => ∃ q, h q = none ∧ v = some (.ref q) ∧ h2 = pu h q (eo 10 [.int ln, .int pl, .int sp, .int ld])) := by
  refine Ct.of (by decide) rfl (fun Γ X rr hmn => ?_)
  have X : Cx l D cX5_copy RX5 2 (rmC 2 43 1 4) Γ := X
  show J Γ h 0 0 0 [(0, .ref a)] []
  refine n_X5_10 X (dt tX5_copy 0 rfl) (Nat.le_of_ble_eq_true rfl) (Nat.le_of_ble_eq_true rfl) (fun q1 fq1 => ?_)
  refine J_dup X (dt tX5_copy 1 rfl) rfl ?_
  refine J_aload_n X (dt tX5_copy 2 rfl) 0 rfl ?_
  refine g_X5_9_10 X (dt tX5_copy 3 rfl) (pu_o (ne_f ha fq1) ha) rfl ?_
  refine J_aload_n X (dt tX5_copy 4 rfl) 0 rfl ?_
  refine g_X5_15_10 X (dt tX5_copy 5 rfl) (pu_o (ne_f ha fq1) ha) rfl ?_
  refine J_aload_n X (dt tX5_copy 6 rfl) 0 rfl ?_
  refine g_X5_18_10 X (dt tX5_copy 7 rfl) (pu_o (ne_f ha fq1) ha) rfl ?_
  refine J_callI (rest := [.ref q1]) X (dt tX5_copy 8 rfl) (c_Rinit l D _ ln pl sp (pu_s _ _ _)) (lw_meth q502) q93 q688 q501 rfl okX5_init rfl ⟨Nat.le_of_ble_eq_true rfl, Nat.le_of_ble_eq_true rfl⟩ rfl (Nat.le_of_ble_eq_true rfl) (Nat.le_of_ble_eq_true rfl) (Nat.le_of_ble_eq_true rfl) (fun v9 h9 hp9 => ?_)
  obtain ⟨rfl, e9⟩ := hp9
  rw [e9]
  refine J_heap (h2 := pu h q1 (eo 10 [.int ln, .int pl, .int sp, .int (nI 0)])) (pu_pu _ _ _ _) ?_
  show J Γ (pu h q1 (eo 10 [.int ln, .int pl, .int sp, .int (nI 0)])) 1 4 19 [(0, .ref a)] [.ref q1]
  refine J_astore_n X (lv2 := [(1, .ref q1), (0, .ref a)]) (dt tX5_copy 9 rfl) rfl rfl rfl ?_
  refine J_aload_n X (dt tX5_copy 10 rfl) 0 rfl ?_
  refine J_aload_n X (dt tX5_copy 11 rfl) 1 rfl ?_
  refine g_X5_24_10 X (dt tX5_copy 12 rfl) (pu_o (ne_f ha fq1) ha) rfl ?_
  refine p_X5_24_10 X (fs2 := [.int ln, .int pl, .int sp, .int ld]) (dt tX5_copy 13 rfl) (pu_s _ _ _) rfl rfl rfl rfl ?_
  refine J_heap (h2 := pu h q1 (eo 10 [.int ln, .int pl, .int sp, .int ld])) (pu_pu _ _ _ _) ?_
  refine J_aload_n X (dt tX5_copy 14 rfl) 0 rfl ?_
  exact J_aret X rr (dt tX5_copy 15 rfl) (Nat.le_of_ble_eq_true rfl) (Nat.le_of_ble_eq_true rfl) (Or.inl ⟨_, rfl⟩) (Or.inr ⟨_, rfl⟩) ⟨_, fq1, rfl, rfl⟩
abbrev cX5_later : ByteArray := prog_9_method_5_code
def yX5_later : MethodName := ⟨RX5, "later", "(I)LLeadRaces$Runner;"⟩
theorem tX5_later : dtab cX5_later [(0, .new 10, 3, 3), (3, .dup, 1, 4), (4, .aload_n 0, 1, 5), (5, .getfield 9, 3, 8), (8, .aload_n 0, 1, 9), (9, .getfield 15, 3, 12), (12, .iload_n 1, 1, 13), (13, .aload_n 0, 1, 14), (14, .getfield 18, 3, 17), (17, .imul, 1, 18), (18, .iadd, 1, 19), (19, .aload_n 0, 1, 20), (20, .getfield 18, 3, 23), (23, .invokespecial 21, 3, 26), (26, .areturn, 1, 27)] := by unfold dtab; decide +kernel
theorem okX5_later : okY yX5_later 1 := by decide +kernel
set_option maxHeartbeats 4000000 in
theorem c_Rlater (l : Launch) (D : va_G) (h : PH) {a : Nat} {ln pl sp ld : Int32} (t : Int32) (ha : h a = some (eo 10 [.int ln, .int pl, .int sp, .int ld]))  : Ct l D yX5_later cX5_later 2 (some (.object "LeadRaces$Runner")) (rmC 2 43 1 4) [.ref a, .int t] h (fun v h2 => ∃ q, h q = none ∧ v = some (.ref q) ∧ h2 = pu h q (eo 10 [.int ln, .int (pl + t * sp), .int sp, .int (nI 0)])) := by
  refine Ct.of (by decide) rfl (fun Γ X rr hmn => ?_)
  have X : Cx l D cX5_later RX5 2 (rmC 2 43 1 4) Γ := X
  show J Γ h 0 0 0 [(0, .ref a), (1, .int t)] []
  refine n_X5_10 X (dt tX5_later 0 rfl) (Nat.le_of_ble_eq_true rfl) (Nat.le_of_ble_eq_true rfl) (fun q1 fq1 => ?_)
  refine J_dup X (dt tX5_later 1 rfl) rfl ?_
  refine J_aload_n X (dt tX5_later 2 rfl) 0 rfl ?_
  refine g_X5_9_10 X (dt tX5_later 3 rfl) (pu_o (ne_f ha fq1) ha) rfl ?_
  refine J_aload_n X (dt tX5_later 4 rfl) 0 rfl ?_
  refine g_X5_15_10 X (dt tX5_later 5 rfl) (pu_o (ne_f ha fq1) ha) rfl ?_
  refine J_iload_n X (dt tX5_later 6 rfl) 1 rfl ?_
  refine J_aload_n X (dt tX5_later 7 rfl) 0 rfl ?_
  refine g_X5_18_10 X (dt tX5_later 8 rfl) (pu_o (ne_f ha fq1) ha) rfl ?_
  refine J_imul X (dt tX5_later 9 rfl) ?_
  refine J_iadd X (dt tX5_later 10 rfl) ?_
  refine J_aload_n X (dt tX5_later 11 rfl) 0 rfl ?_
  refine g_X5_18_10 X (dt tX5_later 12 rfl) (pu_o (ne_f ha fq1) ha) rfl ?_
  refine J_callI (rest := [.ref q1]) X (dt tX5_later 13 rfl) (c_Rinit l D _ ln (pl + (t * sp)) sp (pu_s _ _ _)) (lw_meth q502) q93 q688 q501 rfl okX5_init rfl ⟨Nat.le_of_ble_eq_true rfl, Nat.le_of_ble_eq_true rfl⟩ rfl (Nat.le_of_ble_eq_true rfl) (Nat.le_of_ble_eq_true rfl) (Nat.le_of_ble_eq_true rfl) (fun v9 h9 hp9 => ?_)
  obtain ⟨rfl, e9⟩ := hp9
  rw [e9]
  refine J_heap (h2 := pu h q1 (eo 10 [.int ln, .int (pl + (t * sp)), .int sp, .int (nI 0)])) (pu_pu _ _ _ _) ?_
  show J Γ (pu h q1 (eo 10 [.int ln, .int (pl + (t * sp)), .int sp, .int (nI 0)])) 1 4 26 [(0, .ref a), (1, .int t)] [.ref q1]
  exact J_aret X rr (dt tX5_later 14 rfl) (Nat.le_of_ble_eq_true rfl) (Nat.le_of_ble_eq_true rfl) (Or.inl ⟨_, rfl⟩) (Or.inr ⟨_, rfl⟩) ⟨_, fq1, rfl, rfl⟩
/-- whether a runner is ahead of another one: places, lanes -/
def k_ahead (pa la pb lb : Int32) : Int32 := if pb < pa then nI 1 else if pa = pb then if lb ≤ la then nI 0 else nI 1 else nI 0
theorem k_ahead_B (pa la pb lb : Int32) : isB (k_ahead pa la pb lb) := isB_ite isB_1 (isB_ite (isB_ite isB_0 isB_1) isB_0)
/-- in how many moments b is ahead of a -/
def k_lasts (pa la sa pb lb sb : Int32) : Int64 := if 0 < lg_cmp (sb - sa).toInt64 0 then (if la ≤ lb then (pa - pb).toInt64 / (sb - sa).toInt64 + 1 else ((pa - pb).toInt64 + (sb - sa).toInt64 - 1) / (sb - sa).toInt64) else 9223372036854775807
abbrev cX5_isAhead_2 : ByteArray := prog_9_method_3_code
def yX5_isAhead_2 : MethodName := ⟨RX5, "isAhead", "(LLeadRaces$Runner;)Z"⟩
theorem tX5_isAhead_2 : dtab cX5_isAhead_2 [(0, .aload_n 0, 1, 1), (1, .getfield 15, 3, 4), (4, .aload_n 1, 1, 5), (5, .getfield 15, 3, 8), (8, .if_icmp .gt 25, 3, 11), (11, .aload_n 0, 1, 12), (12, .getfield 15, 3, 15), (15, .aload_n 1, 1, 16), (16, .getfield 15, 3, 19), (19, .if_icmp .ne 18, 3, 22), (22, .aload_n 0, 1, 23), (23, .getfield 9, 3, 26), (26, .aload_n 1, 1, 27), (27, .getfield 9, 3, 30), (30, .if_icmp .ge 7, 3, 33), (33, .iconst 1, 1, 34), (34, .goto 4, 3, 37), (37, .iconst 0, 1, 38), (38, .ireturn, 1, 39)] := by unfold dtab; decide +kernel
theorem okX5_isAhead_2 : okY yX5_isAhead_2 1 := by decide +kernel
set_option maxHeartbeats 4000000 in
theorem c_Rahead (l : Launch) (D : va_G) (h : PH) {a b : Nat} {la pa sa da : Int32} {lb pb sb db : Int32} (ha : h a = some (eo 10 [.int la, .int pa, .int sa, .int da])) (hb : h b = some (eo 10 [.int lb, .int pb, .int sb, .int db]))  : Ct l D yX5_isAhead_2 cX5_isAhead_2 2 (some .boolean) (rmC 0 0 0 0) [.ref a, .ref b] h (PS h (some (.int (k_ahead pa la pb lb)))) := by
  refine Ct.of (by decide) rfl (fun Γ X rr hmn => ?_)
  have X : Cx l D cX5_isAhead_2 RX5 2 (rmC 0 0 0 0) Γ := X
  show J Γ h 0 0 0 [(0, .ref a), (1, .ref b)] []
  refine J_aload_n X (dt tX5_isAhead_2 0 rfl) 0 rfl ?_
  refine g_X5_15_10 X (dt tX5_isAhead_2 1 rfl) ha rfl ?_
  refine J_aload_n X (dt tX5_isAhead_2 2 rfl) 1 rfl ?_
  refine g_X5_15_10 X (dt tX5_isAhead_2 3 rfl) hb rfl ?_
  have kj5 : ∀ v4 : Int32, v4 = (if pb < pa then nI 1 else if pa = pb then if lb ≤ la then nI 0 else nI 1 else nI 0) → J Γ h 0 0 38 [(0, .ref a), (1, .ref b)] [.int v4] := by
    intro v4 ev4
    exact J_zret X rr (dt tX5_isAhead_2 18 rfl) (Nat.le_of_ble_eq_true rfl) (Nat.le_of_ble_eq_true rfl) (isB.nar (by rw [ev4]; exact k_ahead_B pa la pb lb)) ⟨congrArg (fun z => some (Value.int z)) ev4, rfl⟩
  refine J_icmp_gt X 33 (dt tX5_isAhead_2 4 rfl) (by decide) (fun c1 => ?_) (fun c1 => ?_)
  · refine J_iconst X (nI 1) (dt tX5_isAhead_2 15 rfl) (by decide) ?_
    refine J_goto X (tgt := 38) (dt tX5_isAhead_2 16 rfl) (by decide) ?_
    exact kj5 _ (if_pos c1).symm
  · refine J_aload_n X (dt tX5_isAhead_2 5 rfl) 0 rfl ?_
    refine g_X5_15_10 X (dt tX5_isAhead_2 6 rfl) ha rfl ?_
    refine J_aload_n X (dt tX5_isAhead_2 7 rfl) 1 rfl ?_
    refine g_X5_15_10 X (dt tX5_isAhead_2 8 rfl) hb rfl ?_
    refine J_icmp_ne X 37 (dt tX5_isAhead_2 9 rfl) (by decide) (fun c2 => ?_) (fun c2 => ?_)
    · refine J_iconst X (nI 0) (dt tX5_isAhead_2 17 rfl) (by decide) ?_
      exact kj5 _ ((if_neg c1).trans (if_neg c2)).symm
    · refine J_aload_n X (dt tX5_isAhead_2 10 rfl) 0 rfl ?_
      refine g_X5_9_10 X (dt tX5_isAhead_2 11 rfl) ha rfl ?_
      refine J_aload_n X (dt tX5_isAhead_2 12 rfl) 1 rfl ?_
      refine g_X5_9_10 X (dt tX5_isAhead_2 13 rfl) hb rfl ?_
      refine J_icmp_ge X 37 (dt tX5_isAhead_2 14 rfl) (by decide) (fun c3 => ?_) (fun c3 => ?_)
      · refine J_iconst X (nI 0) (dt tX5_isAhead_2 17 rfl) (by decide) ?_
        exact kj5 _ ((if_neg c1).trans ((if_pos c2).trans (if_pos c3))).symm
      · refine J_iconst X (nI 1) (dt tX5_isAhead_2 15 rfl) (by decide) ?_
        refine J_goto X (tgt := 38) (dt tX5_isAhead_2 16 rfl) (by decide) ?_
        exact kj5 _ ((if_neg c1).trans ((if_pos c2).trans (if_neg c3))).symm
abbrev cX5_isAhead : ByteArray := prog_9_method_7_code
def yX5_isAhead : MethodName := ⟨RX5, "isAhead", "(Ljava/lang/Object;)Z"⟩
theorem tX5_isAhead : dtab cX5_isAhead [(0, .aload_n 0, 1, 1), (1, .aload_n 1, 1, 2), (2, .checkcast 10, 3, 5), (5, .invokevirtual 33, 3, 8), (8, .ireturn, 1, 9)] := by unfold dtab; decide +kernel
theorem okX5_isAhead : okY yX5_isAhead 1 := by decide +kernel
set_option maxHeartbeats 4000000 in
theorem c_RaheadO (l : Launch) (D : va_G) (h : PH) {a b : Nat} {la pa sa da : Int32} {lb pb sb db : Int32} (ha : h a = some (eo 10 [.int la, .int pa, .int sa, .int da])) (hb : h b = some (eo 10 [.int lb, .int pb, .int sb, .int db]))  : Ct l D yX5_isAhead cX5_isAhead 2 (some .boolean) (rmC 1 21 0 0) [.ref a, .ref b] h (PS h (some (.int (k_ahead pa la pb lb)))) := by
  refine Ct.of (by decide) rfl (fun Γ X rr hmn => ?_)
  have X : Cx l D cX5_isAhead RX5 2 (rmC 1 21 0 0) Γ := X
  show J Γ h 0 0 0 [(0, .ref a), (1, .ref b)] []
  refine J_aload_n X (dt tX5_isAhead 0 rfl) 0 rfl ?_
  refine J_aload_n X (dt tX5_isAhead 1 rfl) 1 rfl ?_
  refine J_castS X (C := RX5) (T := TX5) (dt tX5_isAhead 2 rfl) (Or.inl hb) rfl q564 ?_
  refine J_callVR (rest := []) X (T := TX5) (dt tX5_isAhead 3 rfl) (c_Rahead l D _ ha hb) (lw_V q565 q566 q567 q93 q568) okX5_isAhead_2 rfl (Or.inl ha) rfl ⟨Nat.le_of_ble_eq_true rfl, Nat.le_of_ble_eq_true rfl⟩ rfl (Nat.le_of_ble_eq_true rfl) (Nat.le_of_ble_eq_true rfl) (Nat.le_of_ble_eq_true rfl) (fun v9 h9 hp9 => ?_)
  obtain ⟨rfl, e9⟩ := hp9
  rw [e9]
  show J Γ h 0 0 8 [(0, .ref a), (1, .ref b)] [.int (k_ahead pa la pb lb)]
  exact J_zret X rr (dt tX5_isAhead 4 rfl) (Nat.le_of_ble_eq_true rfl) (Nat.le_of_ble_eq_true rfl) (isB.nar (k_ahead_B pa la pb lb)) ⟨rfl, rfl⟩
abbrev cX5_lasts_2 : ByteArray := prog_9_method_4_code
def yX5_lasts_2 : MethodName := ⟨RX5, "lasts", "(LLeadRaces$Runner;)J"⟩
theorem tX5_lasts_2 : dtab cX5_lasts_2 [(0, .aload_n 0, 1, 1), (1, .getfield 15, 3, 4), (4, .aload_n 1, 1, 5), (5, .getfield 15, 3, 8), (8, .isub, 1, 9), (9, .i2l, 1, 10), (10, .lstore_n 2, 1, 11), (11, .aload_n 1, 1, 12), (12, .getfield 18, 3, 15), (15, .aload_n 0, 1, 16), (16, .getfield 18, 3, 19), (19, .isub, 1, 20), (20, .i2l, 1, 21), (21, .lstore 4, 2, 23), (23, .lload 4, 2, 25), (25, .lconst 0, 1, 26), (26, .lcmp, 1, 27), (27, .ifCond .gt 7, 3, 30), (30, .ldc2_w 27, 3, 33), (33, .lreturn, 1, 34), (34, .aload_n 1, 1, 35), (35, .getfield 9, 3, 38), (38, .aload_n 0, 1, 39), (39, .getfield 9, 3, 42), (42, .if_icmp .ge 15, 3, 45), (45, .lload_n 2, 1, 46), (46, .lload 4, 2, 48), (48, .ladd, 1, 49), (49, .lconst 1, 1, 50), (50, .lsub, 1, 51), (51, .lload 4, 2, 53), (53, .ldiv, 1, 54), (54, .goto 9, 3, 57), (57, .lload_n 2, 1, 58), (58, .lload 4, 2, 60), (60, .ldiv, 1, 61), (61, .lconst 1, 1, 62), (62, .ladd, 1, 63), (63, .lreturn, 1, 64)] := by unfold dtab; decide +kernel
theorem okX5_lasts_2 : okY yX5_lasts_2 1 := by decide +kernel
set_option maxHeartbeats 4000000 in
theorem c_Rlasts (l : Launch) (D : va_G) (h : PH) {a b : Nat} {la pa sa da : Int32} {lb pb sb db : Int32} (ha : h a = some (eo 10 [.int la, .int pa, .int sa, .int da])) (hb : h b = some (eo 10 [.int lb, .int pb, .int sb, .int db]))  : Ct l D yX5_lasts_2 cX5_lasts_2 6 (some .long) (rmC 0 0 0 0) [.ref a, .ref b] h (PS h (some (.long (k_lasts pa la sa pb lb sb)))) := by
  refine Ct.of (by decide) rfl (fun Γ X rr hmn => ?_)
  have X : Cx l D cX5_lasts_2 RX5 6 (rmC 0 0 0 0) Γ := X
  show J Γ h 0 0 0 [(0, .ref a), (1, .ref b)] []
  refine J_aload_n X (dt tX5_lasts_2 0 rfl) 0 rfl ?_
  refine g_X5_15_10 X (dt tX5_lasts_2 1 rfl) ha rfl ?_
  refine J_aload_n X (dt tX5_lasts_2 2 rfl) 1 rfl ?_
  refine g_X5_15_10 X (dt tX5_lasts_2 3 rfl) hb rfl ?_
  refine J_isub X (dt tX5_lasts_2 4 rfl) ?_
  refine J_i2l X (dt tX5_lasts_2 5 rfl) ?_
  refine J_lstore_n X (lv2 := [(2, .long ((pa - pb).toInt64)), (0, .ref a), (1, .ref b)]) (dt tX5_lasts_2 6 rfl) rfl rfl rfl ?_
  refine J_aload_n X (dt tX5_lasts_2 7 rfl) 2 rfl ?_
  refine g_X5_18_10 X (dt tX5_lasts_2 8 rfl) hb rfl ?_
  refine J_aload_n X (dt tX5_lasts_2 9 rfl) 1 rfl ?_
  refine g_X5_18_10 X (dt tX5_lasts_2 10 rfl) ha rfl ?_
  refine J_isub X (dt tX5_lasts_2 11 rfl) ?_
  refine J_i2l X (dt tX5_lasts_2 12 rfl) ?_
  refine J_lstore X (lv2 := [(4, .long ((sb - sa).toInt64)), (2, .long ((pa - pb).toInt64)), (0, .ref a), (1, .ref b)]) (dt tX5_lasts_2 13 rfl) rfl rfl ?_
  refine J_lload X (dt tX5_lasts_2 14 rfl) 0 rfl ?_
  refine J_lconst X 0 (dt tX5_lasts_2 15 rfl) (by decide) ?_
  refine J_lcmp X (dt tX5_lasts_2 16 rfl) ?_
  refine J_if_gt X 34 (dt tX5_lasts_2 17 rfl) (by decide) (fun c1 => ?_) (fun c1 => ?_)
  · refine J_aload_n X (dt tX5_lasts_2 20 rfl) 3 rfl ?_
    refine g_X5_9_10 X (dt tX5_lasts_2 21 rfl) hb rfl ?_
    refine J_aload_n X (dt tX5_lasts_2 22 rfl) 2 rfl ?_
    refine g_X5_9_10 X (dt tX5_lasts_2 23 rfl) ha rfl ?_
    have kj4 : ∀ v3 : Int64, v3 = (if la ≤ lb then (((pa - pb).toInt64) / ((sb - sa).toInt64)) + 1 else ((((pa - pb).toInt64) + ((sb - sa).toInt64)) - 1) / ((sb - sa).toInt64)) → J Γ h 0 0 63 [(4, .long ((sb - sa).toInt64)), (2, .long ((pa - pb).toInt64)), (0, .ref a), (1, .ref b)] [.long v3] := by
      intro v3 ev3
      exact J_lret X rr (dt tX5_lasts_2 38 rfl) (Nat.le_of_ble_eq_true rfl) (Nat.le_of_ble_eq_true rfl) ⟨congrArg (fun z => some (Value.long z)) (ev3.trans (if_pos c1).symm), rfl⟩
    refine J_icmp_ge X 57 (dt tX5_lasts_2 24 rfl) (by decide) (fun c2 => ?_) (fun c2 => ?_)
    · refine J_lload_n X (dt tX5_lasts_2 33 rfl) 1 rfl ?_
      refine J_lload X (dt tX5_lasts_2 34 rfl) 0 rfl ?_
      refine J_ldiv X (dt tX5_lasts_2 35 rfl) (fun z => absurd (lg_cmp_gt0.mp c1) (by rw [z]; decide)) ?_
      refine J_lconst X 1 (dt tX5_lasts_2 36 rfl) (by decide) ?_
      refine J_ladd X (dt tX5_lasts_2 37 rfl) ?_
      exact kj4 _ (if_pos c2).symm
    · refine J_lload_n X (dt tX5_lasts_2 25 rfl) 1 rfl ?_
      refine J_lload X (dt tX5_lasts_2 26 rfl) 0 rfl ?_
      refine J_ladd X (dt tX5_lasts_2 27 rfl) ?_
      refine J_lconst X 1 (dt tX5_lasts_2 28 rfl) (by decide) ?_
      refine J_lsub X (dt tX5_lasts_2 29 rfl) ?_
      refine J_lload X (dt tX5_lasts_2 30 rfl) 0 rfl ?_
      refine J_ldiv X (dt tX5_lasts_2 31 rfl) (fun z => absurd (lg_cmp_gt0.mp c1) (by rw [z]; decide)) ?_
      refine J_goto X (tgt := 63) (dt tX5_lasts_2 32 rfl) (by decide) ?_
      exact kj4 _ (if_neg c2).symm
  · refine J_ldc2 X (dt tX5_lasts_2 18 rfl) q582 ?_
    exact J_lret X rr (dt tX5_lasts_2 19 rfl) (Nat.le_of_ble_eq_true rfl) (Nat.le_of_ble_eq_true rfl) ⟨congrArg (fun z => some (Value.long z)) ((if_neg c1).symm), rfl⟩
abbrev cX5_lasts : ByteArray := prog_9_method_6_code
def yX5_lasts : MethodName := ⟨RX5, "lasts", "(Ljava/lang/Object;)J"⟩
theorem tX5_lasts : dtab cX5_lasts [(0, .aload_n 0, 1, 1), (1, .aload_n 1, 1, 2), (2, .checkcast 10, 3, 5), (5, .invokevirtual 29, 3, 8), (8, .lreturn, 1, 9)] := by unfold dtab; decide +kernel
theorem okX5_lasts : okY yX5_lasts 1 := by decide +kernel
set_option maxHeartbeats 4000000 in
theorem c_RlastsO (l : Launch) (D : va_G) (h : PH) {a b : Nat} {la pa sa da : Int32} {lb pb sb db : Int32} (ha : h a = some (eo 10 [.int la, .int pa, .int sa, .int da])) (hb : h b = some (eo 10 [.int lb, .int pb, .int sb, .int db]))  : Ct l D yX5_lasts cX5_lasts 2 (some .long) (rmC 1 25 0 0) [.ref a, .ref b] h (PS h (some (.long (k_lasts pa la sa pb lb sb)))) := by
  refine Ct.of (by decide) rfl (fun Γ X rr hmn => ?_)
  have X : Cx l D cX5_lasts RX5 2 (rmC 1 25 0 0) Γ := X
  show J Γ h 0 0 0 [(0, .ref a), (1, .ref b)] []
  refine J_aload_n X (dt tX5_lasts 0 rfl) 0 rfl ?_
  refine J_aload_n X (dt tX5_lasts 1 rfl) 1 rfl ?_
  refine J_castS X (C := RX5) (T := TX5) (dt tX5_lasts 2 rfl) (Or.inl hb) rfl q564 ?_
  refine J_callVR (rest := []) X (T := TX5) (dt tX5_lasts 3 rfl) (c_Rlasts l D _ ha hb) (lw_V q578 q579 q580 q93 q581) okX5_lasts_2 rfl (Or.inl ha) rfl ⟨Nat.le_of_ble_eq_true rfl, Nat.le_of_ble_eq_true rfl⟩ rfl (Nat.le_of_ble_eq_true rfl) (Nat.le_of_ble_eq_true rfl) (Nat.le_of_ble_eq_true rfl) (fun v9 h9 hp9 => ?_)
  obtain ⟨rfl, e9⟩ := hp9
  rw [e9]
  show J Γ h 0 0 8 [(0, .ref a), (1, .ref b)] [.long (k_lasts pa la sa pb lb sb)]
  exact J_lret X rr (dt tX5_lasts 4 rfl) (Nat.le_of_ble_eq_true rfl) (Nat.le_of_ble_eq_true rfl) ⟨rfl, rfl⟩
