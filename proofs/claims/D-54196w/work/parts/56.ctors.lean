/-! printed by gen/compw.py -/
set_option maxRecDepth 100000
theorem q88 : (Jvm.Cond.initialized "java/lang/Exception") ∈ lw_all := lw_g (lw_at lw_m1 20 rfl) rfl
theorem q92 : (Jvm.Cond.initialized "LeadRaces$Refusal") ∈ lw_all := lw_g (lw_at lw_m1 24 rfl) rfl
theorem q419 : (Jvm.Cond.fieldLink "java/lang/Throwable" (31 : Nat) "java/lang/Throwable" "detailMessage" "Ljava/lang/String;") ∈ lw_all := lw_g (lw_at lw_m2 111 rfl) rfl
theorem q471 : (Jvm.Cond.instanceMethod ({ cls := "LeadRaces$Refusal", name := "<init>", desc := "(ILjava/lang/RuntimeException;)V" } : Jvm.MethodName)) ∈ lw_all := lw_g (lw_at lw_m2 163 rfl) rfl
theorem q472 : (Jvm.Cond.code ({ cls := "LeadRaces$Refusal", name := "<init>", desc := "(ILjava/lang/RuntimeException;)V" } : Jvm.MethodName) prog_8_method_1_code (3 : Nat) (Option.none : Option Jvm.ClassFile.FieldType)) ∈ lw_all := lw_g (lw_at lw_m2 164 rfl) rfl
theorem q474 : (Jvm.Cond.methodLink "LeadRaces$Refusal" (3 : Nat) ({ cls := "java/lang/Exception", name := "<init>", desc := "(Ljava/lang/String;Ljava/lang/Throwable;)V" } : Jvm.MethodName)) ∈ lw_all := lw_g (lw_at lw_m2 166 rfl) rfl
theorem q475 : (Jvm.Cond.instanceMethod ({ cls := "java/lang/Exception", name := "<init>", desc := "(Ljava/lang/String;Ljava/lang/Throwable;)V" } : Jvm.MethodName)) ∈ lw_all := lw_g (lw_at lw_m2 167 rfl) rfl
theorem q476 : (Jvm.Cond.code ({ cls := "java/lang/Exception", name := "<init>", desc := "(Ljava/lang/String;Ljava/lang/Throwable;)V" } : Jvm.MethodName) prog_20_method_3_code (3 : Nat) (Option.none : Option Jvm.ClassFile.FieldType)) ∈ lw_all := lw_g (lw_at lw_m2 168 rfl) rfl
theorem q477 : (Jvm.Cond.methodLink "java/lang/Exception" (10 : Nat) ({ cls := "java/lang/Throwable", name := "<init>", desc := "(Ljava/lang/String;Ljava/lang/Throwable;)V" } : Jvm.MethodName)) ∈ lw_all := lw_g (lw_at lw_m2 169 rfl) rfl
theorem q478 : (Jvm.Cond.instanceMethod ({ cls := "java/lang/Throwable", name := "<init>", desc := "(Ljava/lang/String;Ljava/lang/Throwable;)V" } : Jvm.MethodName)) ∈ lw_all := lw_g (lw_at lw_m2 170 rfl) rfl
theorem q479 : (Jvm.Cond.code ({ cls := "java/lang/Throwable", name := "<init>", desc := "(Ljava/lang/String;Ljava/lang/Throwable;)V" } : Jvm.MethodName) prog_35_method_3_code (3 : Nat) (Option.none : Option Jvm.ClassFile.FieldType)) ∈ lw_all := lw_g (lw_at lw_m2 171 rfl) rfl
theorem q480 : (Jvm.Cond.fieldLink "LeadRaces$Refusal" (9 : Nat) "LeadRaces$Refusal" "code" "I") ∈ lw_all := lw_g (lw_at lw_m2 172 rfl) rfl
theorem q497 : (Jvm.Cond.methodLink "LeadRaces$Refusal" (15 : Nat) ({ cls := "LeadRaces$Refusal", name := "<init>", desc := "(ILjava/lang/RuntimeException;)V" } : Jvm.MethodName)) ∈ lw_all := lw_g (lw_at lw_m2 189 rfl) rfl
theorem q1582 : (Jvm.Cond.methodLink "LeadRaces$Fault" (5 : Nat) ({ cls := "java/lang/Exception", name := "<init>", desc := "(Ljava/lang/String;Ljava/lang/Throwable;)V" } : Jvm.MethodName)) ∈ lw_all := lw_g (lw_at lw_m7 74 rfl) rfl
theorem q1583 : (Jvm.Cond.fieldLink "LeadRaces$Fault" (11 : Nat) "LeadRaces$Fault" "place" "I") ∈ lw_all := lw_g (lw_at lw_m7 75 rfl) rfl
def RJ14 : String := "java/lang/Exception"
section
variable {l : Launch} {D : va_G} {cc : ByteArray} {nL : Nat} {rm : Room} {Γ : Cxt} {h : PH} {k n pc nx : Nat} {lv : List (Nat × Value)} {st : List Value}
theorem p_J13_7_9 (X : Cx l D cc RJ13 nL rm Γ) {a : Nat} {fs fs2 : List Value} {v : Value} (d : At cc pc (.putfield 7) 3 nx) (ha : h a = some (eo 9 fs)) (hn : narrow (.object "java/lang/Throwable") v = v) (hfit : fits (.object "java/lang/Throwable") v = true) (hl2 : Nat.ble (0 + 1) fs.length = true) (hfs : fs.set 0 v = fs2) (kk : J Γ (pu h a (eo 9 fs2)) k n nx lv st) : J Γ h k n pc lv (v :: .ref a :: st) := J_put X (kf := 0) (tf := tyX4) d ha (show vwCl[9]? = some (RX4, TX4, 7) from rfl) in_X4 tyX4_ok nmX4 rfl q420 rfl rfl rfl hn hfit hl2 hfs kk
theorem p_J13_17_9 (X : Cx l D cc RJ13 nL rm Γ) {a : Nat} {fs fs2 : List Value} {v : Value} (d : At cc pc (.putfield 17) 3 nx) (ha : h a = some (eo 9 fs)) (hn : narrow (.array (.object "java/lang/StackTraceElement")) v = v) (hfit : fits (.array (.object "java/lang/StackTraceElement")) v = true) (hl2 : Nat.ble (1 + 1) fs.length = true) (hfs : fs.set 1 v = fs2) (kk : J Γ (pu h a (eo 9 fs2)) k n nx lv st) : J Γ h k n pc lv (v :: .ref a :: st) := J_put X (kf := 1) (tf := tyX4) d ha (show vwCl[9]? = some (RX4, TX4, 7) from rfl) in_X4 tyX4_ok nmX4 rfl q421 rfl rfl rfl hn hfit hl2 hfs kk
theorem p_J13_24_9 (X : Cx l D cc RJ13 nL rm Γ) {a : Nat} {fs fs2 : List Value} {v : Value} (d : At cc pc (.putfield 24) 3 nx) (ha : h a = some (eo 9 fs)) (hn : narrow (.object "java/util/List") v = v) (hfit : fits (.object "java/util/List") v = true) (hl2 : Nat.ble (2 + 1) fs.length = true) (hfs : fs.set 2 v = fs2) (kk : J Γ (pu h a (eo 9 fs2)) k n nx lv st) : J Γ h k n pc lv (v :: .ref a :: st) := J_put X (kf := 2) (tf := tyX4) d ha (show vwCl[9]? = some (RX4, TX4, 7) from rfl) in_X4 tyX4_ok nmX4 rfl q422 rfl rfl rfl hn hfit hl2 hfs kk
theorem p_J13_31_9 (X : Cx l D cc RJ13 nL rm Γ) {a : Nat} {fs fs2 : List Value} {v : Value} (d : At cc pc (.putfield 31) 3 nx) (ha : h a = some (eo 9 fs)) (hn : narrow (.object "java/lang/String") v = v) (hfit : fits (.object "java/lang/String") v = true) (hl2 : Nat.ble (3 + 1) fs.length = true) (hfs : fs.set 3 v = fs2) (kk : J Γ (pu h a (eo 9 fs2)) k n nx lv st) : J Γ h k n pc lv (v :: .ref a :: st) := J_put X (kf := 3) (tf := tyX4) d ha (show vwCl[9]? = some (RX4, TX4, 7) from rfl) in_X4 tyX4_ok nmX4 rfl q419 rfl rfl rfl hn hfit hl2 hfs kk
theorem p_X4_9_9 (X : Cx l D cc RX4 nL rm Γ) (hmn : Mn "<init>" Γ) {a : Nat} {fs fs2 : List Value} {v : Value} (d : At cc pc (.putfield 9) 3 nx) (ha : h a = some (eo 9 fs)) (hn : narrow (.int) v = v) (hfit : fits (.int) v = true) (hl2 : Nat.ble (6 + 1) fs.length = true) (hfs : fs.set 6 v = fs2) (kk : J Γ (pu h a (eo 9 fs2)) k n nx lv st) : J Γ h k n pc lv (v :: .ref a :: st) := J_putF X hmn (kf := 6) (tf := tyX4) d ha (show vwCl[9]? = some (RX4, TX4, 7) from rfl) in_X4 tyX4_ok nmX4 rfl q480 rfl rfl rfl rfl hn hfit hl2 hfs kk
theorem p_J13_7_17 (X : Cx l D cc RJ13 nL rm Γ) {a : Nat} {fs fs2 : List Value} {v : Value} (d : At cc pc (.putfield 7) 3 nx) (ha : h a = some (eo 17 fs)) (hn : narrow (.object "java/lang/Throwable") v = v) (hfit : fits (.object "java/lang/Throwable") v = true) (hl2 : Nat.ble (0 + 1) fs.length = true) (hfs : fs.set 0 v = fs2) (kk : J Γ (pu h a (eo 17 fs2)) k n nx lv st) : J Γ h k n pc lv (v :: .ref a :: st) := J_put X (kf := 0) (tf := tyX8) d ha (show vwCl[17]? = some (RX8, TX8, 7) from rfl) in_X8 tyX8_ok nmX8 rfl q420 rfl rfl rfl hn hfit hl2 hfs kk
theorem p_J13_17_17 (X : Cx l D cc RJ13 nL rm Γ) {a : Nat} {fs fs2 : List Value} {v : Value} (d : At cc pc (.putfield 17) 3 nx) (ha : h a = some (eo 17 fs)) (hn : narrow (.array (.object "java/lang/StackTraceElement")) v = v) (hfit : fits (.array (.object "java/lang/StackTraceElement")) v = true) (hl2 : Nat.ble (1 + 1) fs.length = true) (hfs : fs.set 1 v = fs2) (kk : J Γ (pu h a (eo 17 fs2)) k n nx lv st) : J Γ h k n pc lv (v :: .ref a :: st) := J_put X (kf := 1) (tf := tyX8) d ha (show vwCl[17]? = some (RX8, TX8, 7) from rfl) in_X8 tyX8_ok nmX8 rfl q421 rfl rfl rfl hn hfit hl2 hfs kk
theorem p_J13_24_17 (X : Cx l D cc RJ13 nL rm Γ) {a : Nat} {fs fs2 : List Value} {v : Value} (d : At cc pc (.putfield 24) 3 nx) (ha : h a = some (eo 17 fs)) (hn : narrow (.object "java/util/List") v = v) (hfit : fits (.object "java/util/List") v = true) (hl2 : Nat.ble (2 + 1) fs.length = true) (hfs : fs.set 2 v = fs2) (kk : J Γ (pu h a (eo 17 fs2)) k n nx lv st) : J Γ h k n pc lv (v :: .ref a :: st) := J_put X (kf := 2) (tf := tyX8) d ha (show vwCl[17]? = some (RX8, TX8, 7) from rfl) in_X8 tyX8_ok nmX8 rfl q422 rfl rfl rfl hn hfit hl2 hfs kk
theorem p_J13_31_17 (X : Cx l D cc RJ13 nL rm Γ) {a : Nat} {fs fs2 : List Value} {v : Value} (d : At cc pc (.putfield 31) 3 nx) (ha : h a = some (eo 17 fs)) (hn : narrow (.object "java/lang/String") v = v) (hfit : fits (.object "java/lang/String") v = true) (hl2 : Nat.ble (3 + 1) fs.length = true) (hfs : fs.set 3 v = fs2) (kk : J Γ (pu h a (eo 17 fs2)) k n nx lv st) : J Γ h k n pc lv (v :: .ref a :: st) := J_put X (kf := 3) (tf := tyX8) d ha (show vwCl[17]? = some (RX8, TX8, 7) from rfl) in_X8 tyX8_ok nmX8 rfl q419 rfl rfl rfl hn hfit hl2 hfs kk
theorem p_X8_11_17 (X : Cx l D cc RX8 nL rm Γ) (hmn : Mn "<init>" Γ) {a : Nat} {fs fs2 : List Value} {v : Value} (d : At cc pc (.putfield 11) 3 nx) (ha : h a = some (eo 17 fs)) (hn : narrow (.int) v = v) (hfit : fits (.int) v = true) (hl2 : Nat.ble (6 + 1) fs.length = true) (hfs : fs.set 6 v = fs2) (kk : J Γ (pu h a (eo 17 fs2)) k n nx lv st) : J Γ h k n pc lv (v :: .ref a :: st) := J_putF X hmn (kf := 6) (tf := tyX8) d ha (show vwCl[17]? = some (RX8, TX8, 7) from rfl) in_X8 tyX8_ok nmX8 rfl q1583 rfl rfl rfl rfl hn hfit hl2 hfs kk
end
theorem nar_qa {t : FieldType} (r : Option Nat) : narrow (.array t) (va_rf r) = va_rf r := by cases r <;> rfl
theorem fit_qa {t : FieldType} (r : Option Nat) : fits (.array t) (va_rf r) = true := by cases r <;> rfl
abbrev cJ13_init_3 : ByteArray := prog_35_method_3_code
def yJ13_init_3 : MethodName := ⟨RJ13, "<init>", "(Ljava/lang/String;Ljava/lang/Throwable;)V"⟩
theorem tJ13_init_3 : dtab cJ13_init_3 [(0, .aload_n 0, 1, 1), (1, .invokespecial 1, 3, 4), (4, .aload_n 0, 1, 5), (5, .aload_n 0, 1, 6), (6, .putfield 7, 3, 9), (9, .aload_n 0, 1, 10), (10, .getstatic 13, 3, 13), (13, .putfield 17, 3, 16), (16, .aload_n 0, 1, 17), (17, .getstatic 20, 3, 20), (20, .putfield 24, 3, 23), (23, .aload_n 0, 1, 24), (24, .invokevirtual 27, 3, 27), (27, .pop, 1, 28), (28, .aload_n 0, 1, 29), (29, .aload_n 1, 1, 30), (30, .putfield 31, 3, 33), (33, .aload_n 0, 1, 34), (34, .aload_n 2, 1, 35), (35, .putfield 7, 3, 38), (38, .return_, 1, 39)] := by unfold dtab; decide +kernel
theorem okJ13_init_3 : okY yJ13_init_3 2 := by decide +kernel
set_option maxHeartbeats 4000000 in
theorem c_Thr9 (l : Launch) (D : va_G) (h : PH) {q ms : Nat} {cz : Option Nat} {x : Int32} (hl9 : l.stackTraces = false) (hq : h q = some (eo 9 [.null, .null, .null, .null, .null, .int (nI 0), .int x]))  : CtP l D yJ13_init_3 cJ13_init_3 3 none (rmC 3 50 0 0) q [.ref q, .ref ms, va_rf cz] h (fun v9 h9 => ∃ r1 r2 : Option Nat, v9 = none ∧ h9 = pu h q (eo 9 [va_rf cz, va_rf r1, va_rf r2, .ref ms, .null, .int (nI 0), .int x])) := by
  refine CtP.of (by decide) (by cases cz <;> rfl) hq (fun Γ X rr hmn hmo => ?_)
  have X : Cx l D cJ13_init_3 RJ13 3 (rmC 3 50 0 0) Γ := X
  rw [show lv_args 0 [.ref q, .ref ms, va_rf cz] = [(0, .ref q), (1, .ref ms), (2, va_rf cz)] from (by cases cz <;> rfl)]
  show J Γ h 0 0 0 [(0, .ref q), (1, .ref ms), (2, va_rf cz)] []
  refine J_aload_n X (dt tJ13_init_3 0 rfl) 0 rfl ?_
  refine J_objI X (dt tJ13_init_3 1 rfl) q400 q118 q119 (Nat.le_of_ble_eq_true rfl) (Nat.le_of_ble_eq_true rfl) ?_
  refine J_aload_n X (dt tJ13_init_3 2 rfl) 0 rfl ?_
  refine J_aload_n X (dt tJ13_init_3 3 rfl) 0 rfl ?_
  refine p_J13_7_9 X (fs2 := [.ref q, .null, .null, .null, .null, .int (nI 0), .int x]) (dt tJ13_init_3 4 rfl) hq rfl rfl rfl rfl ?_
  refine J_aload_n X (dt tJ13_init_3 5 rfl) 0 rfl ?_
  refine J_getstU X (dt tJ13_init_3 6 rfl) q401 (fun u1 hu1 => ?_)
  refine p_J13_17_9 X (fs2 := [.ref q, va_rf u1, .null, .null, .null, .int (nI 0), .int x]) (dt tJ13_init_3 7 rfl) (pu_s _ _ _) (nar_qa _) (fit_qa _) rfl rfl ?_
  refine J_heap (h2 := pu h q (eo 9 [.ref q, va_rf u1, .null, .null, .null, .int (nI 0), .int x])) (pu_pu _ _ _ _) ?_
  refine J_aload_n X (dt tJ13_init_3 8 rfl) 0 rfl ?_
  refine J_getstq X (dt tJ13_init_3 9 rfl) (fun _ _ _ z => z.2.2.2.2.1.1) q403 (fun s2 => ?_)
  refine p_J13_24_9 X (fs2 := [.ref q, va_rf u1, va_rf s2, .null, .null, .int (nI 0), .int x]) (dt tJ13_init_3 10 rfl) (pu_s _ _ _) (nar_q _) (fit_q _) rfl rfl ?_
  refine J_heap (h2 := pu h q (eo 9 [.ref q, va_rf u1, va_rf s2, .null, .null, .int (nI 0), .int x])) (pu_pu _ _ _ _) ?_
  refine J_aload_n X (dt tJ13_init_3 11 rfl) 0 rfl ?_
  refine J_fill X hl9 hmo (C := RX4) (T := TX4) rfl rfl rfl rfl in_X4 q463 q409 (dt tJ13_init_3 12 rfl) (pu_s _ _ _) hu1 rfl rfl (Nat.le_of_ble_eq_true rfl) (Nat.le_of_ble_eq_true rfl) (Nat.le_of_ble_eq_true rfl) ?_
  refine J_pop X (dt tJ13_init_3 13 rfl) rfl ?_
  refine J_aload_n X (dt tJ13_init_3 14 rfl) 0 rfl ?_
  refine J_aload_n X (dt tJ13_init_3 15 rfl) 1 rfl ?_
  refine p_J13_31_9 X (fs2 := [.ref q, va_rf u1, va_rf s2, .ref ms, .null, .int (nI 0), .int x]) (dt tJ13_init_3 16 rfl) (pu_s _ _ _) rfl rfl rfl rfl ?_
  refine J_heap (h2 := pu h q (eo 9 [.ref q, va_rf u1, va_rf s2, .ref ms, .null, .int (nI 0), .int x])) (pu_pu _ _ _ _) ?_
  refine J_aload_n X (dt tJ13_init_3 17 rfl) 0 rfl ?_
  refine J_aload_nq X (dt tJ13_init_3 18 rfl) 2 rfl ?_
  refine p_J13_7_9 X (fs2 := [va_rf cz, va_rf u1, va_rf s2, .ref ms, .null, .int (nI 0), .int x]) (dt tJ13_init_3 19 rfl) (pu_s _ _ _) (nar_q _) (fit_q _) rfl rfl ?_
  refine J_heap (h2 := pu h q (eo 9 [va_rf cz, va_rf u1, va_rf s2, .ref ms, .null, .int (nI 0), .int x])) (pu_pu _ _ _ _) ?_
  exact J_vret X rr (dt tJ13_init_3 20 rfl) (Nat.le_of_ble_eq_true rfl) (Nat.le_of_ble_eq_true rfl) ⟨u1, s2, rfl, rfl⟩
abbrev cJ14_init_2 : ByteArray := prog_20_method_3_code
def yJ14_init_2 : MethodName := ⟨RJ14, "<init>", "(Ljava/lang/String;Ljava/lang/Throwable;)V"⟩
theorem tJ14_init_2 : dtab cJ14_init_2 [(0, .aload_n 0, 1, 1), (1, .aload_n 1, 1, 2), (2, .aload_n 2, 1, 3), (3, .invokespecial 10, 3, 6), (6, .return_, 1, 7)] := by unfold dtab; decide +kernel
theorem okJ14_init_2 : okY yJ14_init_2 2 := by decide +kernel
set_option maxHeartbeats 4000000 in
theorem c_Exc9 (l : Launch) (D : va_G) (h : PH) {q ms : Nat} {cz : Option Nat} {x : Int32} (hl9 : l.stackTraces = false) (hq : h q = some (eo 9 [.null, .null, .null, .null, .null, .int (nI 0), .int x]))  : CtP l D yJ14_init_2 cJ14_init_2 3 none (rmC 4 72 0 0) q [.ref q, .ref ms, va_rf cz] h (fun v9 h9 => ∃ r1 r2 : Option Nat, v9 = none ∧ h9 = pu h q (eo 9 [va_rf cz, va_rf r1, va_rf r2, .ref ms, .null, .int (nI 0), .int x])) := by
  refine CtP.of (by decide) (by cases cz <;> rfl) hq (fun Γ X rr hmn hmo => ?_)
  have X : Cx l D cJ14_init_2 RJ14 3 (rmC 4 72 0 0) Γ := X
  rw [show lv_args 0 [.ref q, .ref ms, va_rf cz] = [(0, .ref q), (1, .ref ms), (2, va_rf cz)] from (by cases cz <;> rfl)]
  show J Γ h 0 0 0 [(0, .ref q), (1, .ref ms), (2, va_rf cz)] []
  refine J_aload_n X (dt tJ14_init_2 0 rfl) 0 rfl ?_
  refine J_aload_n X (dt tJ14_init_2 1 rfl) 1 rfl ?_
  refine J_aload_nq X (dt tJ14_init_2 2 rfl) 2 rfl ?_
  refine J_callIM (rest := []) X hmo (dt tJ14_init_2 3 rfl) (c_Thr9 l D _ (ms := ms) (cz := cz) (x := x) hl9 hq) (lw_meth q479) q87 q477 q478 rfl okJ13_init_3 rfl ⟨Nat.le_of_ble_eq_true rfl, Nat.le_of_ble_eq_true rfl⟩ rfl (Nat.le_of_ble_eq_true rfl) (Nat.le_of_ble_eq_true rfl) (Nat.le_of_ble_eq_true rfl) (fun v9 h9 hp9 => ?_)
  obtain ⟨r1, r2, rfl, e9⟩ := hp9
  rw [e9]
  show J Γ (pu h q (eo 9 [va_rf cz, va_rf r1, va_rf r2, .ref ms, .null, .int (nI 0), .int x])) 0 0 6 [(0, .ref q), (1, .ref ms), (2, va_rf cz)] []
  exact J_vret X rr (dt tJ14_init_2 4 rfl) (Nat.le_of_ble_eq_true rfl) (Nat.le_of_ble_eq_true rfl) ⟨r1, r2, rfl, rfl⟩
abbrev cX4_init : ByteArray := prog_8_method_1_code
def yX4_init : MethodName := ⟨RX4, "<init>", "(ILjava/lang/RuntimeException;)V"⟩
theorem tX4_init : dtab cX4_init [(0, .aload_n 0, 1, 1), (1, .ldc 1, 2, 3), (3, .aload_n 2, 1, 4), (4, .invokespecial 3, 3, 7), (7, .aload_n 0, 1, 8), (8, .iload_n 1, 1, 9), (9, .putfield 9, 3, 12), (12, .return_, 1, 13)] := by unfold dtab; decide +kernel
theorem okX4_init : okY yX4_init 2 := by decide +kernel
set_option maxHeartbeats 4000000 in
theorem c_Ref2 (l : Launch) (D : va_G) (h : PH) {q : Nat} {cz : Option Nat} {co : Int32} (hl9 : l.stackTraces = false) (hq : h q = some (eo 9 [.null, .null, .null, .null, .null, .int (nI 0), .int (nI 0)]))  : CtP l D yX4_init cX4_init 3 none (rmC 5 94 0 0) q [.ref q, .int co, va_rf cz] h (fun v9 h9 => ∃ r1 r2 : Option Nat, v9 = none ∧ h9 = pu h q (eo 9 [va_rf cz, va_rf r1, va_rf r2, .ref (kA D 0), .null, .int (nI 0), .int co])) := by
  refine CtP.of (by decide) (by cases cz <;> rfl) hq (fun Γ X rr hmn hmo => ?_)
  have X : Cx l D cX4_init RX4 3 (rmC 5 94 0 0) Γ := X
  rw [show lv_args 0 [.ref q, .int co, va_rf cz] = [(0, .ref q), (1, .int co), (2, va_rf cz)] from (by cases cz <;> rfl)]
  show J Γ h 0 0 0 [(0, .ref q), (1, .int co), (2, va_rf cz)] []
  refine J_aload_n X (dt tX4_init 0 rfl) 0 rfl ?_
  refine J_ldcS X 0 (dt tX4_init 1 rfl) rfl rfl rfl ?_
  refine J_aload_nq X (dt tX4_init 2 rfl) 2 rfl ?_
  refine J_callIM (rest := []) X hmo (dt tX4_init 3 rfl) (c_Exc9 l D _ (ms := kA D 0) (cz := cz) (x := nI 0) hl9 hq) (lw_meth q476) q88 q474 q475 rfl okJ14_init_2 rfl ⟨Nat.le_of_ble_eq_true rfl, Nat.le_of_ble_eq_true rfl⟩ rfl (Nat.le_of_ble_eq_true rfl) (Nat.le_of_ble_eq_true rfl) (Nat.le_of_ble_eq_true rfl) (fun v9 h9 hp9 => ?_)
  obtain ⟨r1, r2, rfl, e9⟩ := hp9
  rw [e9]
  show J Γ (pu h q (eo 9 [va_rf cz, va_rf r1, va_rf r2, .ref (kA D 0), .null, .int (nI 0), .int (nI 0)])) 0 0 7 [(0, .ref q), (1, .int co), (2, va_rf cz)] []
  refine J_aload_n X (dt tX4_init 4 rfl) 0 rfl ?_
  refine J_iload_n X (dt tX4_init 5 rfl) 1 rfl ?_
  refine p_X4_9_9 X hmn (fs2 := [va_rf cz, va_rf r1, va_rf r2, .ref (kA D 0), .null, .int (nI 0), .int co]) (dt tX4_init 6 rfl) (pu_s _ _ _) rfl rfl rfl rfl ?_
  refine J_heap (h2 := pu h q (eo 9 [va_rf cz, va_rf r1, va_rf r2, .ref (kA D 0), .null, .int (nI 0), .int co])) (pu_pu _ _ _ _) ?_
  exact J_vret X rr (dt tX4_init 7 rfl) (Nat.le_of_ble_eq_true rfl) (Nat.le_of_ble_eq_true rfl) ⟨r1, r2, rfl, rfl⟩
abbrev cX4_init_2 : ByteArray := prog_8_method_2_code
def yX4_init_2 : MethodName := ⟨RX4, "<init>", "(I)V"⟩
theorem tX4_init_2 : dtab cX4_init_2 [(0, .aload_n 0, 1, 1), (1, .iload_n 1, 1, 2), (2, .aconst_null, 1, 3), (3, .invokespecial 15, 3, 6), (6, .return_, 1, 7)] := by unfold dtab; decide +kernel
theorem okX4_init_2 : okY yX4_init_2 1 := by decide +kernel
set_option maxHeartbeats 4000000 in
theorem c_Ref1 (l : Launch) (D : va_G) (h : PH) {q : Nat} {cz : Option Nat} {co : Int32} (hl9 : l.stackTraces = false) (hq : h q = some (eo 9 [.null, .null, .null, .null, .null, .int (nI 0), .int (nI 0)]))  : CtP l D yX4_init_2 cX4_init_2 2 none (rmC 6 116 0 0) q [.ref q, .int co] h (fun v9 h9 => ∃ r1 r2 : Option Nat, v9 = none ∧ h9 = pu h q (eo 9 [.null, va_rf r1, va_rf r2, .ref (kA D 0), .null, .int (nI 0), .int co])) := by
  refine CtP.of (by decide) rfl hq (fun Γ X rr hmn hmo => ?_)
  have X : Cx l D cX4_init_2 RX4 2 (rmC 6 116 0 0) Γ := X
  show J Γ h 0 0 0 [(0, .ref q), (1, .int co)] []
  refine J_aload_n X (dt tX4_init_2 0 rfl) 0 rfl ?_
  refine J_iload_n X (dt tX4_init_2 1 rfl) 1 rfl ?_
  refine J_null X (dt tX4_init_2 2 rfl) ?_
  refine J_callIM (rest := []) X hmo (dt tX4_init_2 3 rfl) (c_Ref2 l D _ (cz := none) (co := co) hl9 hq) (lw_meth q472) q92 q497 q471 rfl okX4_init rfl ⟨Nat.le_of_ble_eq_true rfl, Nat.le_of_ble_eq_true rfl⟩ rfl (Nat.le_of_ble_eq_true rfl) (Nat.le_of_ble_eq_true rfl) (Nat.le_of_ble_eq_true rfl) (fun v9 h9 hp9 => ?_)
  obtain ⟨r1, r2, rfl, e9⟩ := hp9
  rw [e9]
  show J Γ (pu h q (eo 9 [.null, va_rf r1, va_rf r2, .ref (kA D 0), .null, .int (nI 0), .int co])) 0 0 6 [(0, .ref q), (1, .int co)] []
  exact J_vret X rr (dt tX4_init_2 4 rfl) (Nat.le_of_ble_eq_true rfl) (Nat.le_of_ble_eq_true rfl) ⟨r1, r2, rfl, rfl⟩
set_option maxHeartbeats 4000000 in
theorem c_Thr17 (l : Launch) (D : va_G) (h : PH) {q ms : Nat} {cz : Option Nat} {x : Int32} (hl9 : l.stackTraces = false) (hq : h q = some (eo 17 [.null, .null, .null, .null, .null, .int (nI 0), .int x]))  : CtP l D yJ13_init_3 cJ13_init_3 3 none (rmC 3 50 0 0) q [.ref q, .ref ms, va_rf cz] h (fun v9 h9 => ∃ r1 r2 : Option Nat, v9 = none ∧ h9 = pu h q (eo 17 [va_rf cz, va_rf r1, va_rf r2, .ref ms, .null, .int (nI 0), .int x])) := by
  refine CtP.of (by decide) (by cases cz <;> rfl) hq (fun Γ X rr hmn hmo => ?_)
  have X : Cx l D cJ13_init_3 RJ13 3 (rmC 3 50 0 0) Γ := X
  rw [show lv_args 0 [.ref q, .ref ms, va_rf cz] = [(0, .ref q), (1, .ref ms), (2, va_rf cz)] from (by cases cz <;> rfl)]
  show J Γ h 0 0 0 [(0, .ref q), (1, .ref ms), (2, va_rf cz)] []
  refine J_aload_n X (dt tJ13_init_3 0 rfl) 0 rfl ?_
  refine J_objI X (dt tJ13_init_3 1 rfl) q400 q118 q119 (Nat.le_of_ble_eq_true rfl) (Nat.le_of_ble_eq_true rfl) ?_
  refine J_aload_n X (dt tJ13_init_3 2 rfl) 0 rfl ?_
  refine J_aload_n X (dt tJ13_init_3 3 rfl) 0 rfl ?_
  refine p_J13_7_17 X (fs2 := [.ref q, .null, .null, .null, .null, .int (nI 0), .int x]) (dt tJ13_init_3 4 rfl) hq rfl rfl rfl rfl ?_
  refine J_aload_n X (dt tJ13_init_3 5 rfl) 0 rfl ?_
  refine J_getstU X (dt tJ13_init_3 6 rfl) q401 (fun u1 hu1 => ?_)
  refine p_J13_17_17 X (fs2 := [.ref q, va_rf u1, .null, .null, .null, .int (nI 0), .int x]) (dt tJ13_init_3 7 rfl) (pu_s _ _ _) (nar_qa _) (fit_qa _) rfl rfl ?_
  refine J_heap (h2 := pu h q (eo 17 [.ref q, va_rf u1, .null, .null, .null, .int (nI 0), .int x])) (pu_pu _ _ _ _) ?_
  refine J_aload_n X (dt tJ13_init_3 8 rfl) 0 rfl ?_
  refine J_getstq X (dt tJ13_init_3 9 rfl) (fun _ _ _ z => z.2.2.2.2.1.1) q403 (fun s2 => ?_)
  refine p_J13_24_17 X (fs2 := [.ref q, va_rf u1, va_rf s2, .null, .null, .int (nI 0), .int x]) (dt tJ13_init_3 10 rfl) (pu_s _ _ _) (nar_q _) (fit_q _) rfl rfl ?_
  refine J_heap (h2 := pu h q (eo 17 [.ref q, va_rf u1, va_rf s2, .null, .null, .int (nI 0), .int x])) (pu_pu _ _ _ _) ?_
  refine J_aload_n X (dt tJ13_init_3 11 rfl) 0 rfl ?_
  refine J_fill X hl9 hmo (C := RX8) (T := TX8) rfl rfl rfl rfl in_X8 q1572 q408 (dt tJ13_init_3 12 rfl) (pu_s _ _ _) hu1 rfl rfl (Nat.le_of_ble_eq_true rfl) (Nat.le_of_ble_eq_true rfl) (Nat.le_of_ble_eq_true rfl) ?_
  refine J_pop X (dt tJ13_init_3 13 rfl) rfl ?_
  refine J_aload_n X (dt tJ13_init_3 14 rfl) 0 rfl ?_
  refine J_aload_n X (dt tJ13_init_3 15 rfl) 1 rfl ?_
  refine p_J13_31_17 X (fs2 := [.ref q, va_rf u1, va_rf s2, .ref ms, .null, .int (nI 0), .int x]) (dt tJ13_init_3 16 rfl) (pu_s _ _ _) rfl rfl rfl rfl ?_
  refine J_heap (h2 := pu h q (eo 17 [.ref q, va_rf u1, va_rf s2, .ref ms, .null, .int (nI 0), .int x])) (pu_pu _ _ _ _) ?_
  refine J_aload_n X (dt tJ13_init_3 17 rfl) 0 rfl ?_
  refine J_aload_nq X (dt tJ13_init_3 18 rfl) 2 rfl ?_
  refine p_J13_7_17 X (fs2 := [va_rf cz, va_rf u1, va_rf s2, .ref ms, .null, .int (nI 0), .int x]) (dt tJ13_init_3 19 rfl) (pu_s _ _ _) (nar_q _) (fit_q _) rfl rfl ?_
  refine J_heap (h2 := pu h q (eo 17 [va_rf cz, va_rf u1, va_rf s2, .ref ms, .null, .int (nI 0), .int x])) (pu_pu _ _ _ _) ?_
  exact J_vret X rr (dt tJ13_init_3 20 rfl) (Nat.le_of_ble_eq_true rfl) (Nat.le_of_ble_eq_true rfl) ⟨u1, s2, rfl, rfl⟩
set_option maxHeartbeats 4000000 in
theorem c_Exc17 (l : Launch) (D : va_G) (h : PH) {q ms : Nat} {cz : Option Nat} {x : Int32} (hl9 : l.stackTraces = false) (hq : h q = some (eo 17 [.null, .null, .null, .null, .null, .int (nI 0), .int x]))  : CtP l D yJ14_init_2 cJ14_init_2 3 none (rmC 4 72 0 0) q [.ref q, .ref ms, va_rf cz] h (fun v9 h9 => ∃ r1 r2 : Option Nat, v9 = none ∧ h9 = pu h q (eo 17 [va_rf cz, va_rf r1, va_rf r2, .ref ms, .null, .int (nI 0), .int x])) := by
  refine CtP.of (by decide) (by cases cz <;> rfl) hq (fun Γ X rr hmn hmo => ?_)
  have X : Cx l D cJ14_init_2 RJ14 3 (rmC 4 72 0 0) Γ := X
  rw [show lv_args 0 [.ref q, .ref ms, va_rf cz] = [(0, .ref q), (1, .ref ms), (2, va_rf cz)] from (by cases cz <;> rfl)]
  show J Γ h 0 0 0 [(0, .ref q), (1, .ref ms), (2, va_rf cz)] []
  refine J_aload_n X (dt tJ14_init_2 0 rfl) 0 rfl ?_
  refine J_aload_n X (dt tJ14_init_2 1 rfl) 1 rfl ?_
  refine J_aload_nq X (dt tJ14_init_2 2 rfl) 2 rfl ?_
  refine J_callIM (rest := []) X hmo (dt tJ14_init_2 3 rfl) (c_Thr17 l D _ (ms := ms) (cz := cz) (x := x) hl9 hq) (lw_meth q479) q87 q477 q478 rfl okJ13_init_3 rfl ⟨Nat.le_of_ble_eq_true rfl, Nat.le_of_ble_eq_true rfl⟩ rfl (Nat.le_of_ble_eq_true rfl) (Nat.le_of_ble_eq_true rfl) (Nat.le_of_ble_eq_true rfl) (fun v9 h9 hp9 => ?_)
  obtain ⟨r1, r2, rfl, e9⟩ := hp9
  rw [e9]
  show J Γ (pu h q (eo 17 [va_rf cz, va_rf r1, va_rf r2, .ref ms, .null, .int (nI 0), .int x])) 0 0 6 [(0, .ref q), (1, .ref ms), (2, va_rf cz)] []
  exact J_vret X rr (dt tJ14_init_2 4 rfl) (Nat.le_of_ble_eq_true rfl) (Nat.le_of_ble_eq_true rfl) ⟨r1, r2, rfl, rfl⟩
abbrev cX8_init : ByteArray := prog_3_method_1_code
def yX8_init : MethodName := ⟨RX8, "<init>", "(ILLeadRaces$Refusal;)V"⟩
theorem tX8_init : dtab cX8_init [(0, .aload_n 0, 1, 1), (1, .ldc 3, 2, 3), (3, .aload_n 2, 1, 4), (4, .invokespecial 5, 3, 7), (7, .aload_n 0, 1, 8), (8, .iload_n 1, 1, 9), (9, .putfield 11, 3, 12), (12, .return_, 1, 13)] := by unfold dtab; decide +kernel
theorem okX8_init : okY yX8_init 2 := by decide +kernel
set_option maxHeartbeats 4000000 in
theorem c_Fau (l : Launch) (D : va_G) (h : PH) {q : Nat} {cz : Option Nat} {co : Int32} (hl9 : l.stackTraces = false) (hq : h q = some (eo 17 [.null, .null, .null, .null, .null, .int (nI 0), .int (nI 0)]))  : CtP l D yX8_init cX8_init 3 none (rmC 5 94 0 0) q [.ref q, .int co, va_rf cz] h (fun v9 h9 => ∃ r1 r2 : Option Nat, v9 = none ∧ h9 = pu h q (eo 17 [va_rf cz, va_rf r1, va_rf r2, .ref (kA D 2), .null, .int (nI 0), .int co])) := by
  refine CtP.of (by decide) (by cases cz <;> rfl) hq (fun Γ X rr hmn hmo => ?_)
  have X : Cx l D cX8_init RX8 3 (rmC 5 94 0 0) Γ := X
  rw [show lv_args 0 [.ref q, .int co, va_rf cz] = [(0, .ref q), (1, .int co), (2, va_rf cz)] from (by cases cz <;> rfl)]
  show J Γ h 0 0 0 [(0, .ref q), (1, .int co), (2, va_rf cz)] []
  refine J_aload_n X (dt tX8_init 0 rfl) 0 rfl ?_
  refine J_ldcS X 2 (dt tX8_init 1 rfl) rfl rfl rfl ?_
  refine J_aload_nq X (dt tX8_init 2 rfl) 2 rfl ?_
  refine J_callIM (rest := []) X hmo (dt tX8_init 3 rfl) (c_Exc17 l D _ (ms := kA D 2) (cz := cz) (x := nI 0) hl9 hq) (lw_meth q476) q88 q1582 q475 rfl okJ14_init_2 rfl ⟨Nat.le_of_ble_eq_true rfl, Nat.le_of_ble_eq_true rfl⟩ rfl (Nat.le_of_ble_eq_true rfl) (Nat.le_of_ble_eq_true rfl) (Nat.le_of_ble_eq_true rfl) (fun v9 h9 hp9 => ?_)
  obtain ⟨r1, r2, rfl, e9⟩ := hp9
  rw [e9]
  show J Γ (pu h q (eo 17 [va_rf cz, va_rf r1, va_rf r2, .ref (kA D 2), .null, .int (nI 0), .int (nI 0)])) 0 0 7 [(0, .ref q), (1, .int co), (2, va_rf cz)] []
  refine J_aload_n X (dt tX8_init 4 rfl) 0 rfl ?_
  refine J_iload_n X (dt tX8_init 5 rfl) 1 rfl ?_
  refine p_X8_11_17 X hmn (fs2 := [va_rf cz, va_rf r1, va_rf r2, .ref (kA D 2), .null, .int (nI 0), .int co]) (dt tX8_init 6 rfl) (pu_s _ _ _) rfl rfl rfl rfl ?_
  refine J_heap (h2 := pu h q (eo 17 [va_rf cz, va_rf r1, va_rf r2, .ref (kA D 2), .null, .int (nI 0), .int co])) (pu_pu _ _ _ _) ?_
  exact J_vret X rr (dt tX8_init 7 rfl) (Nat.le_of_ble_eq_true rfl) (Nat.le_of_ble_eq_true rfl) ⟨r1, r2, rfl, rfl⟩
