/-! printed by gen/compw.py -/
set_option maxRecDepth 100000
theorem q76 : (Jvm.Cond.initialized "LeadRaces$Race") ∈ lw_all := lw_g (lw_at lw_m1 8 rfl) rfl
theorem q208 : (Jvm.Cond.instantiable "LeadRaces$Race" (5 : Nat)) ∈ lw_all := lw_g (lw_at lw_m1 140 rfl) rfl
theorem q210 : (Jvm.Cond.instanceMethod ({ cls := "LeadRaces$Race", name := "<init>", desc := "()V" } : Jvm.MethodName)) ∈ lw_all := lw_g (lw_at lw_m1 142 rfl) rfl
theorem q211 : (Jvm.Cond.code ({ cls := "LeadRaces$Race", name := "<init>", desc := "()V" } : Jvm.MethodName) prog_5_method_1_code (1 : Nat) (Option.none : Option Jvm.ClassFile.FieldType)) ∈ lw_all := lw_g (lw_at lw_m1 143 rfl) rfl
theorem q212 : (Jvm.Cond.methodLink "LeadRaces$Race" (3 : Nat) ({ cls := "java/lang/Object", name := "<init>", desc := "()V" } : Jvm.MethodName)) ∈ lw_all := lw_g (lw_at lw_m1 144 rfl) rfl
theorem q213 : (Jvm.Cond.constantLong "LeadRaces$Race" (9 : Nat) (9223372036854775807 : Int64)) ∈ lw_all := lw_g (lw_at lw_m1 145 rfl) rfl
theorem q214 : (Jvm.Cond.fieldLink "LeadRaces$Race" (21 : Nat) "LeadRaces$Race" "winner" "LLeadRaces$Racing;") ∈ lw_all := lw_g (lw_at lw_m1 146 rfl) rfl
theorem q217 : (Jvm.Cond.fieldLink "LeadRaces$Race" (31 : Nat) "LeadRaces$Race" "other" "LLeadRaces$Racing;") ∈ lw_all := lw_g (lw_at lw_m1 149 rfl) rfl
theorem q220 : (Jvm.Cond.fieldLink "LeadRaces$Race" (11 : Nat) "LeadRaces$Race" "until" "J") ∈ lw_all := lw_g (lw_at lw_m1 152 rfl) rfl
theorem q223 : (Jvm.Cond.fieldLink "LeadRaces$Race" (38 : Nat) "LeadRaces$Race" "runs" "I") ∈ lw_all := lw_g (lw_at lw_m1 155 rfl) rfl
theorem q225 : (Jvm.Cond.fieldLink "LeadRaces$Race" (17 : Nat) "LeadRaces$Race" "last" "I") ∈ lw_all := lw_g (lw_at lw_m1 157 rfl) rfl
theorem q555 : (Jvm.Cond.methodLink "LeadRaces$Race" (25 : Nat) ({ cls := "LeadRaces$Racing", name := "isAhead", desc := "(Ljava/lang/Object;)Z" } : Jvm.MethodName)) ∈ lw_all := lw_g (lw_at lw_m3 7 rfl) rfl
theorem q559 : (Jvm.Cond.selects "LeadRaces$Runner" ({ cls := "LeadRaces$Racing", name := "isAhead", desc := "(Ljava/lang/Object;)Z" } : Jvm.MethodName) ({ cls := "LeadRaces$Runner", name := "isAhead", desc := "(Ljava/lang/Object;)Z" } : Jvm.MethodName)) ∈ lw_all := lw_g (lw_at lw_m3 11 rfl) rfl
theorem q561 : (Jvm.Cond.instanceMethod ({ cls := "LeadRaces$Runner", name := "isAhead", desc := "(Ljava/lang/Object;)Z" } : Jvm.MethodName)) ∈ lw_all := lw_g (lw_at lw_m3 13 rfl) rfl
theorem q563 : (Jvm.Cond.code ({ cls := "LeadRaces$Runner", name := "isAhead", desc := "(Ljava/lang/Object;)Z" } : Jvm.MethodName) prog_9_method_7_code (2 : Nat) (Option.some Jvm.ClassFile.FieldType.boolean)) ∈ lw_all := lw_g (lw_at lw_m3 15 rfl) rfl
theorem q570 : (Jvm.Cond.methodLink "LeadRaces$Race" (34 : Nat) ({ cls := "LeadRaces$Racing", name := "lasts", desc := "(Ljava/lang/Object;)J" } : Jvm.MethodName)) ∈ lw_all := lw_g (lw_at lw_m3 22 rfl) rfl
theorem q573 : (Jvm.Cond.selects "LeadRaces$Runner" ({ cls := "LeadRaces$Racing", name := "lasts", desc := "(Ljava/lang/Object;)J" } : Jvm.MethodName) ({ cls := "LeadRaces$Runner", name := "lasts", desc := "(Ljava/lang/Object;)J" } : Jvm.MethodName)) ∈ lw_all := lw_g (lw_at lw_m3 25 rfl) rfl
theorem q575 : (Jvm.Cond.instanceMethod ({ cls := "LeadRaces$Runner", name := "lasts", desc := "(Ljava/lang/Object;)J" } : Jvm.MethodName)) ∈ lw_all := lw_g (lw_at lw_m3 27 rfl) rfl
theorem q577 : (Jvm.Cond.code ({ cls := "LeadRaces$Runner", name := "lasts", desc := "(Ljava/lang/Object;)J" } : Jvm.MethodName) prog_9_method_6_code (2 : Nat) (Option.some Jvm.ClassFile.FieldType.long)) ∈ lw_all := lw_g (lw_at lw_m3 29 rfl) rfl
theorem q1020 : (Jvm.Cond.classLink "LeadRaces$Race" (12 : Nat) "LeadRaces$Race") ∈ lw_all := lw_g (lw_at lw_m4 232 rfl) rfl
theorem q1021 : (Jvm.Cond.methodLink "LeadRaces$Race" (41 : Nat) ({ cls := "LeadRaces$Race", name := "<init>", desc := "()V" } : Jvm.MethodName)) ∈ lw_all := lw_g (lw_at lw_m4 233 rfl) rfl
section
variable {l : Launch} {D : va_G} {cc : ByteArray} {nL : Nat} {rm : Room} {Γ : Cxt} {h : PH} {k n pc nx : Nat} {lv : List (Nat × Value)} {st : List Value}
theorem p_X2_11_4 (X : Cx l D cc RX2 nL rm Γ) {a : Nat} {fs fs2 : List Value} {v : Value} (d : At cc pc (.putfield 11) 3 nx) (ha : h a = some (eo 4 fs)) (hn : narrow (.long) v = v) (hfit : fits (.long) v = true) (hl2 : Nat.ble (2 + 1) fs.length = true) (hfs : fs.set 2 v = fs2) (kk : J Γ (pu h a (eo 4 fs2)) k n nx lv st) : J Γ h k n pc lv (v :: .ref a :: st) := J_put X (kf := 2) (tf := tyX2) d ha (show vwCl[4]? = some (RX2, TX2, 5) from rfl) in_X2 tyX2_ok nmX2 rfl q220 rfl rfl rfl hn hfit hl2 hfs kk
theorem p_X2_17_4 (X : Cx l D cc RX2 nL rm Γ) {a : Nat} {fs fs2 : List Value} {v : Value} (d : At cc pc (.putfield 17) 3 nx) (ha : h a = some (eo 4 fs)) (hn : narrow (.int) v = v) (hfit : fits (.int) v = true) (hl2 : Nat.ble (4 + 1) fs.length = true) (hfs : fs.set 4 v = fs2) (kk : J Γ (pu h a (eo 4 fs2)) k n nx lv st) : J Γ h k n pc lv (v :: .ref a :: st) := J_put X (kf := 4) (tf := tyX2) d ha (show vwCl[4]? = some (RX2, TX2, 5) from rfl) in_X2 tyX2_ok nmX2 rfl q225 rfl rfl rfl hn hfit hl2 hfs kk
theorem g_X2_21_4 (X : Cx l D cc RX2 nL rm Γ) {a : Nat} {fs : List Value} {v : Value} (d : At cc pc (.getfield 21) 3 nx) (ha : h a = some (eo 4 fs)) (hv : fs[0]? = some v) (kk : J Γ h k n nx lv (v :: st)) : J Γ h k n pc lv (.ref a :: st) := J_get X (kf := 0) d ha (show vwCl[4]? = some (RX2, TX2, 5) from rfl) in_X2 rfl q214 rfl hv kk
theorem p_X2_21_4 (X : Cx l D cc RX2 nL rm Γ) {a : Nat} {fs fs2 : List Value} {v : Value} (d : At cc pc (.putfield 21) 3 nx) (ha : h a = some (eo 4 fs)) (hn : narrow (.object "LeadRaces$Racing") v = v) (hfit : fits (.object "LeadRaces$Racing") v = true) (hl2 : Nat.ble (0 + 1) fs.length = true) (hfs : fs.set 0 v = fs2) (kk : J Γ (pu h a (eo 4 fs2)) k n nx lv st) : J Γ h k n pc lv (v :: .ref a :: st) := J_put X (kf := 0) (tf := tyX2) d ha (show vwCl[4]? = some (RX2, TX2, 5) from rfl) in_X2 tyX2_ok nmX2 rfl q214 rfl rfl rfl hn hfit hl2 hfs kk
theorem p_X2_31_4 (X : Cx l D cc RX2 nL rm Γ) {a : Nat} {fs fs2 : List Value} {v : Value} (d : At cc pc (.putfield 31) 3 nx) (ha : h a = some (eo 4 fs)) (hn : narrow (.object "LeadRaces$Racing") v = v) (hfit : fits (.object "LeadRaces$Racing") v = true) (hl2 : Nat.ble (1 + 1) fs.length = true) (hfs : fs.set 1 v = fs2) (kk : J Γ (pu h a (eo 4 fs2)) k n nx lv st) : J Γ h k n pc lv (v :: .ref a :: st) := J_put X (kf := 1) (tf := tyX2) d ha (show vwCl[4]? = some (RX2, TX2, 5) from rfl) in_X2 tyX2_ok nmX2 rfl q217 rfl rfl rfl hn hfit hl2 hfs kk
theorem g_X2_31_4 (X : Cx l D cc RX2 nL rm Γ) {a : Nat} {fs : List Value} {v : Value} (d : At cc pc (.getfield 31) 3 nx) (ha : h a = some (eo 4 fs)) (hv : fs[1]? = some v) (kk : J Γ h k n nx lv (v :: st)) : J Γ h k n pc lv (.ref a :: st) := J_get X (kf := 1) d ha (show vwCl[4]? = some (RX2, TX2, 5) from rfl) in_X2 rfl q217 rfl hv kk
theorem g_X2_38_4 (X : Cx l D cc RX2 nL rm Γ) {a : Nat} {fs : List Value} {v : Value} (d : At cc pc (.getfield 38) 3 nx) (ha : h a = some (eo 4 fs)) (hv : fs[3]? = some v) (kk : J Γ h k n nx lv (v :: st)) : J Γ h k n pc lv (.ref a :: st) := J_get X (kf := 3) d ha (show vwCl[4]? = some (RX2, TX2, 5) from rfl) in_X2 rfl q223 rfl hv kk
theorem p_X2_38_4 (X : Cx l D cc RX2 nL rm Γ) {a : Nat} {fs fs2 : List Value} {v : Value} (d : At cc pc (.putfield 38) 3 nx) (ha : h a = some (eo 4 fs)) (hn : narrow (.int) v = v) (hfit : fits (.int) v = true) (hl2 : Nat.ble (3 + 1) fs.length = true) (hfs : fs.set 3 v = fs2) (kk : J Γ (pu h a (eo 4 fs2)) k n nx lv st) : J Γ h k n pc lv (v :: .ref a :: st) := J_put X (kf := 3) (tf := tyX2) d ha (show vwCl[4]? = some (RX2, TX2, 5) from rfl) in_X2 tyX2_ok nmX2 rfl q223 rfl rfl rfl hn hfit hl2 hfs kk
theorem n_X2_12 (X : Cx l D cc RX2 nL rm Γ) (d : At cc pc (.new 12) 3 nx) (hk : k + 1 ≤ rm.cells) (hn : n + 5 ≤ rm.slots) (kk : ∀ q, h q = none → J Γ (pu h q (eo 4 [.null, .null, .long 0, .int (nI 0), .int (nI 0)])) (k + 1) (n + 5) nx lv (.ref q :: st)) : J Γ h k n pc lv st := J_new X (tf := tyX2) d (show vwCl[4]? = some (RX2, TX2, 5) from rfl) in_X2 tyX2_ok q1020 q208 q76 (by decide) hk hn kk
theorem g_X2_11_4 (X : Cx l D cc RX2 nL rm Γ) {a : Nat} {fs : List Value} {v : Value} (d : At cc pc (.getfield 11) 3 nx) (ha : h a = some (eo 4 fs)) (hv : fs[2]? = some v) (kk : J Γ h k n nx lv (v :: st)) : J Γ h k n pc lv (.ref a :: st) := J_get X (kf := 2) d ha (show vwCl[4]? = some (RX2, TX2, 5) from rfl) in_X2 rfl q220 rfl hv kk
theorem g_X2_17_4 (X : Cx l D cc RX2 nL rm Γ) {a : Nat} {fs : List Value} {v : Value} (d : At cc pc (.getfield 17) 3 nx) (ha : h a = some (eo 4 fs)) (hv : fs[4]? = some v) (kk : J Γ h k n nx lv (v :: st)) : J Γ h k n pc lv (.ref a :: st) := J_get X (kf := 4) d ha (show vwCl[4]? = some (RX2, TX2, 5) from rfl) in_X2 rfl q225 rfl hv kk
end
abbrev cX2_init : ByteArray := prog_5_method_1_code
def yX2_init : MethodName := ⟨RX2, "<init>", "()V"⟩
theorem tX2_init : dtab cX2_init [(0, .aload_n 0, 1, 1), (1, .invokespecial 3, 3, 4), (4, .aload_n 0, 1, 5), (5, .ldc2_w 9, 3, 8), (8, .putfield 11, 3, 11), (11, .aload_n 0, 1, 12), (12, .iconst (-1), 1, 13), (13, .putfield 17, 3, 16), (16, .return_, 1, 17)] := by unfold dtab; decide +kernel
theorem okX2_init : okY yX2_init 0 := by decide +kernel
set_option maxHeartbeats 4000000 in
theorem c_Cinit (l : Launch) (D : va_G) (h : PH) {a : Nat} (ha : h a = some (eo 4 [.null, .null, .long 0, .int (nI 0), .int (nI 0)]))  : Ct l D yX2_init cX2_init 1 none (rmC 1 20 0 0) [.ref a] h (PS (pu h a (eo 4 [.null, .null, .long (9223372036854775807), .int (nI 0), .int (-1)])) none) := by
  refine Ct.of (by decide) rfl (fun Γ X rr hmn => ?_)
  have X : Cx l D cX2_init RX2 1 (rmC 1 20 0 0) Γ := X
  show J Γ h 0 0 0 [(0, .ref a)] []
  refine J_aload_n X (dt tX2_init 0 rfl) 0 rfl ?_
  refine J_objI X (dt tX2_init 1 rfl) q212 q118 q119 (Nat.le_of_ble_eq_true rfl) (Nat.le_of_ble_eq_true rfl) ?_
  refine J_aload_n X (dt tX2_init 2 rfl) 0 rfl ?_
  refine J_ldc2 X (dt tX2_init 3 rfl) q213 ?_
  refine p_X2_11_4 X (fs2 := [.null, .null, .long (9223372036854775807), .int (nI 0), .int (nI 0)]) (dt tX2_init 4 rfl) ha rfl rfl rfl rfl ?_
  refine J_aload_n X (dt tX2_init 5 rfl) 0 rfl ?_
  refine J_iconst X (-1) (dt tX2_init 6 rfl) (by decide) ?_
  refine p_X2_17_4 X (fs2 := [.null, .null, .long (9223372036854775807), .int (nI 0), .int (-1)]) (dt tX2_init 7 rfl) (pu_s _ _ _) rfl rfl rfl rfl ?_
  refine J_heap (h2 := pu h a (eo 4 [.null, .null, .long (9223372036854775807), .int (nI 0), .int (-1)])) (pu_pu _ _ _ _) ?_
  exact J_vret X rr (dt tX2_init 8 rfl) (Nat.le_of_ble_eq_true rfl) (Nat.le_of_ble_eq_true rfl) ⟨rfl, rfl⟩
def k_until (L : Int64) (m : Int32) : Int64 := if lg_cmp L 9223372036854775807 = 0 then 9223372036854775807 else m.toInt64 + L
def k_other (w w0 : Option Nat) : Int32 := if w = w0 then nI 0 else nI 1
theorem k_other_B (w w0 : Option Nat) : isB (k_other w w0) := isB_ite isB_0 isB_1
abbrev cX2_runs : ByteArray := prog_5_method_2_code
def yX2_runs : MethodName := ⟨RX2, "runs", "(LLeadRaces$Racing;LLeadRaces$Racing;I)Z"⟩
theorem tX2_runs : dtab cX2_runs [(0, .aload_n 0, 1, 1), (1, .getfield 21, 3, 4), (4, .astore 4, 2, 6), (6, .aload_n 1, 1, 7), (7, .ifnull 21, 3, 10), (10, .aload_n 2, 1, 11), (11, .ifnull 13, 3, 14), (14, .aload_n 1, 1, 15), (15, .aload_n 2, 1, 16), (16, .invokeinterface 25 2, 5, 21), (21, .ifCond .eq 7, 3, 24), (24, .iconst 1, 1, 25), (25, .goto 4, 3, 28), (28, .iconst 0, 1, 29), (29, .istore 5, 2, 31), (31, .aload_n 0, 1, 32), (32, .iload 5, 2, 34), (34, .ifCond .eq 7, 3, 37), (37, .aload_n 1, 1, 38), (38, .goto 4, 3, 41), (41, .aload_n 2, 1, 42), (42, .putfield 21, 3, 45), (45, .aload_n 0, 1, 46), (46, .iload 5, 2, 48), (48, .ifCond .eq 7, 3, 51), (51, .aload_n 2, 1, 52), (52, .goto 4, 3, 55), (55, .aload_n 1, 1, 56), (56, .putfield 31, 3, 59), (59, .aload_n 0, 1, 60), (60, .getfield 21, 3, 63), (63, .ifnull 10, 3, 66), (66, .aload_n 0, 1, 67), (67, .getfield 31, 3, 70), (70, .ifnonnull 9, 3, 73), (73, .ldc2_w 9, 3, 76), (76, .goto 16, 3, 79), (79, .aload_n 0, 1, 80), (80, .getfield 21, 3, 83), (83, .aload_n 0, 1, 84), (84, .getfield 31, 3, 87), (87, .invokeinterface 34 2, 5, 92), (92, .lstore 6, 2, 94), (94, .aload_n 0, 1, 95), (95, .lload 6, 2, 97), (97, .ldc2_w 9, 3, 100), (100, .lcmp, 1, 101), (101, .ifCond .ne 9, 3, 104), (104, .ldc2_w 9, 3, 107), (107, .goto 8, 3, 110), (110, .iload_n 3, 1, 111), (111, .i2l, 1, 112), (112, .lload 6, 2, 114), (114, .ladd, 1, 115), (115, .putfield 11, 3, 118), (118, .aload_n 0, 1, 119), (119, .dup, 1, 120), (120, .getfield 38, 3, 123), (123, .iconst 1, 1, 124), (124, .iadd, 1, 125), (125, .putfield 38, 3, 128), (128, .aload_n 0, 1, 129), (129, .iload_n 3, 1, 130), (130, .putfield 17, 3, 133), (133, .aload_n 0, 1, 134), (134, .getfield 21, 3, 137), (137, .aload 4, 2, 139), (139, .if_acmp .eq 7, 3, 142), (142, .iconst 1, 1, 143), (143, .goto 4, 3, 146), (146, .iconst 0, 1, 147), (147, .ireturn, 1, 148)] := by unfold dtab; decide +kernel
theorem okX2_runs : okY yX2_runs 3 := by decide +kernel
set_option maxHeartbeats 4000000 in
theorem c_CrunsA (l : Launch) (D : va_G) (h : PH) {c : Nat} {w0 o0 : Option Nat} {u : Int64} {n t : Int32} (m : Int32) {a b : Nat} {la pa sa da : Int32} {lb pb sb db : Int32} (hc : h c = some (eo 4 [va_rf w0, va_rf o0, .long u, .int n, .int t])) (ha : h a = some (eo 10 [.int la, .int pa, .int sa, .int da])) (hb : h b = some (eo 10 [.int lb, .int pb, .int sb, .int db])) (hx : ¬ k_ahead pa la pb lb = 0) : Ct l D yX2_runs cX2_runs 8 (some .boolean) (rmC 2 46 0 0) [.ref c, .ref a, .ref b, .int m] h (PS (pu h c (eo 4 [.ref a, .ref b, .long (k_until (k_lasts pa la sa pb lb sb) m), .int (n + nI 1), .int m])) (some (.int (k_other (some a) w0)))) := by
  refine Ct.of (by decide) rfl (fun Γ X rr hmn => ?_)
  have X : Cx l D cX2_runs RX2 8 (rmC 2 46 0 0) Γ := X
  show J Γ h 0 0 0 [(0, .ref c), (1, .ref a), (2, .ref b), (3, .int m)] []
  refine J_aload_n X (dt tX2_runs 0 rfl) 0 rfl ?_
  refine g_X2_21_4 X (dt tX2_runs 1 rfl) hc rfl ?_
  refine J_astoreq X (lv2 := [(4, va_rf w0), (0, .ref c), (1, .ref a), (2, .ref b), (3, .int m)]) (dt tX2_runs 2 rfl) rfl rfl ?_
  refine J_aload_n X (dt tX2_runs 3 rfl) 2 rfl ?_
  refine J_ifnull X (some a) 28 (dt tX2_runs 4 rfl) (by decide) (fun c9 => by cases c9) (fun _ _ => ?_)
  refine J_aload_n X (dt tX2_runs 5 rfl) 3 rfl ?_
  refine J_ifnull X (some b) 24 (dt tX2_runs 6 rfl) (by decide) (fun c9 => by cases c9) (fun _ _ => ?_)
  refine J_aload_n X (dt tX2_runs 7 rfl) 2 rfl ?_
  refine J_aload_n X (dt tX2_runs 8 rfl) 3 rfl ?_
  refine J_callF (na := 1) (rest := []) X (T := TX5) (C := RX5) (x := ⟨"LeadRaces$Racing", "isAhead", "(Ljava/lang/Object;)Z"⟩) (dt tX2_runs 9 rfl) (c_RaheadO l D _ ha hb) (lw_F q555 q559 q561 q93 q563) (List.mem_of_getElem? (i := 0) rfl) (by decide) rfl (Or.inl ha) rfl ⟨Nat.le_of_ble_eq_true rfl, Nat.le_of_ble_eq_true rfl⟩ rfl (Nat.le_of_ble_eq_true rfl) (Nat.le_of_ble_eq_true rfl) (Nat.le_of_ble_eq_true rfl) (fun v9 h9 hp9 => ?_)
  obtain ⟨rfl, e9⟩ := hp9
  rw [e9]
  show J Γ h 0 0 21 [(4, va_rf w0), (0, .ref c), (1, .ref a), (2, .ref b), (3, .int m)] [.int (k_ahead pa la pb lb)]
  refine J_if_eq X 28 (dt tX2_runs 10 rfl) (by decide) (fun c9 => absurd c9 (hx)) (fun _ => ?_)
  refine J_iconst X (nI 1) (dt tX2_runs 11 rfl) (by decide) ?_
  refine J_goto X (tgt := 29) (dt tX2_runs 12 rfl) (by decide) ?_
  refine J_istore X (lv2 := [(5, .int (nI 1)), (4, va_rf w0), (0, .ref c), (1, .ref a), (2, .ref b), (3, .int m)]) (dt tX2_runs 14 rfl) (by cases w0 <;> rfl) rfl ?_
  refine J_aload_n X (dt tX2_runs 15 rfl) 2 rfl ?_
  refine J_iload X (dt tX2_runs 16 rfl) 0 rfl ?_
  refine J_if_eq X 41 (dt tX2_runs 17 rfl) (by decide) (fun c9 => absurd c9 (by decide)) (fun _ => ?_)
  refine J_aload_n X (dt tX2_runs 18 rfl) 3 rfl ?_
  refine J_goto X (tgt := 42) (dt tX2_runs 19 rfl) (by decide) ?_
  refine p_X2_21_4 X (fs2 := [.ref a, va_rf o0, .long u, .int n, .int t]) (dt tX2_runs 21 rfl) hc rfl rfl rfl rfl ?_
  refine J_aload_n X (dt tX2_runs 22 rfl) 2 rfl ?_
  refine J_iload X (dt tX2_runs 23 rfl) 0 rfl ?_
  refine J_if_eq X 55 (dt tX2_runs 24 rfl) (by decide) (fun c9 => absurd c9 (by decide)) (fun _ => ?_)
  refine J_aload_n X (dt tX2_runs 25 rfl) 4 rfl ?_
  refine J_goto X (tgt := 56) (dt tX2_runs 26 rfl) (by decide) ?_
  refine p_X2_31_4 X (fs2 := [.ref a, .ref b, .long u, .int n, .int t]) (dt tX2_runs 28 rfl) (pu_s _ _ _) rfl rfl rfl rfl ?_
  refine J_heap (h2 := pu h c (eo 4 [.ref a, .ref b, .long u, .int n, .int t])) (pu_pu _ _ _ _) ?_
  refine J_aload_n X (dt tX2_runs 29 rfl) 2 rfl ?_
  refine g_X2_21_4 X (dt tX2_runs 30 rfl) (pu_s _ _ _) rfl ?_
  refine J_ifnull X (some a) 73 (dt tX2_runs 31 rfl) (by decide) (fun c9 => by cases c9) (fun _ _ => ?_)
  refine J_aload_n X (dt tX2_runs 32 rfl) 2 rfl ?_
  refine g_X2_31_4 X (dt tX2_runs 33 rfl) (pu_s _ _ _) rfl ?_
  refine J_ifnonnull X (some b) 79 (dt tX2_runs 34 rfl) (by decide) (fun _ _ => ?_) (fun c9 => by cases c9)
  refine J_aload_n X (dt tX2_runs 37 rfl) 2 rfl ?_
  refine g_X2_21_4 X (dt tX2_runs 38 rfl) (pu_s _ _ _) rfl ?_
  refine J_aload_n X (dt tX2_runs 39 rfl) 2 rfl ?_
  refine g_X2_31_4 X (dt tX2_runs 40 rfl) (pu_s _ _ _) rfl ?_
  refine J_callF (na := 1) (rest := []) X (T := TX5) (C := RX5) (x := ⟨"LeadRaces$Racing", "lasts", "(Ljava/lang/Object;)J"⟩) (dt tX2_runs 41 rfl) (c_RlastsO l D _ (pu_o (ne_c ha hc (by decide)) ha) (pu_o (ne_c hb hc (by decide)) hb)) (lw_F q570 q573 q575 q93 q577) (List.mem_of_getElem? (i := 1) rfl) (by decide) rfl (Or.inl (pu_o (ne_c ha hc (by decide)) ha)) rfl ⟨Nat.le_of_ble_eq_true rfl, Nat.le_of_ble_eq_true rfl⟩ rfl (Nat.le_of_ble_eq_true rfl) (Nat.le_of_ble_eq_true rfl) (Nat.le_of_ble_eq_true rfl) (fun v9 h9 hp9 => ?_)
  obtain ⟨rfl, e9⟩ := hp9
  rw [e9]
  show J Γ (pu h c (eo 4 [.ref a, .ref b, .long u, .int n, .int t])) 0 0 92 [(5, .int (nI 1)), (4, va_rf w0), (0, .ref c), (1, .ref a), (2, .ref b), (3, .int m)] [.long (k_lasts pa la sa pb lb sb)]
  refine J_lstore X (lv2 := [(6, .long (k_lasts pa la sa pb lb sb)), (5, .int (nI 1)), (4, va_rf w0), (0, .ref c), (1, .ref a), (2, .ref b), (3, .int m)]) (dt tX2_runs 42 rfl) rfl rfl ?_
  refine J_aload_n X (dt tX2_runs 43 rfl) 3 rfl ?_
  refine J_lload X (dt tX2_runs 44 rfl) 0 rfl ?_
  refine J_ldc2 X (dt tX2_runs 45 rfl) q213 ?_
  refine J_lcmp X (dt tX2_runs 46 rfl) ?_
  have kj3 : ∀ v2 : Int64, v2 = (if (lg_cmp (k_lasts pa la sa pb lb sb) (9223372036854775807)) = 0 then (9223372036854775807) else m.toInt64 + (k_lasts pa la sa pb lb sb)) → J Γ (pu h c (eo 4 [.ref a, .ref b, .long u, .int n, .int t])) 0 0 115 [(6, .long (k_lasts pa la sa pb lb sb)), (5, .int (nI 1)), (4, va_rf w0), (0, .ref c), (1, .ref a), (2, .ref b), (3, .int m)] [.long v2, .ref c] := by
    intro v2 ev2
    refine p_X2_11_4 X (fs2 := [.ref a, .ref b, .long v2, .int n, .int t]) (dt tX2_runs 54 rfl) (pu_s _ _ _) rfl rfl rfl rfl ?_
    refine J_heap (h2 := pu h c (eo 4 [.ref a, .ref b, .long v2, .int n, .int t])) (pu_pu _ _ _ _) ?_
    refine J_aload_n X (dt tX2_runs 55 rfl) 3 rfl ?_
    refine J_dup X (dt tX2_runs 56 rfl) rfl ?_
    refine g_X2_38_4 X (dt tX2_runs 57 rfl) (pu_s _ _ _) rfl ?_
    refine J_iconst X (nI 1) (dt tX2_runs 58 rfl) (by decide) ?_
    refine J_iadd X (dt tX2_runs 59 rfl) ?_
    refine p_X2_38_4 X (fs2 := [.ref a, .ref b, .long v2, .int (n + (nI 1)), .int t]) (dt tX2_runs 60 rfl) (pu_s _ _ _) rfl rfl rfl rfl ?_
    refine J_heap (h2 := pu h c (eo 4 [.ref a, .ref b, .long v2, .int (n + (nI 1)), .int t])) (pu_pu _ _ _ _) ?_
    refine J_aload_n X (dt tX2_runs 61 rfl) 3 rfl ?_
    refine J_iload_n X (dt tX2_runs 62 rfl) 6 rfl ?_
    refine p_X2_17_4 X (fs2 := [.ref a, .ref b, .long v2, .int (n + (nI 1)), .int m]) (dt tX2_runs 63 rfl) (pu_s _ _ _) rfl rfl rfl rfl ?_
    refine J_heap (h2 := pu h c (eo 4 [.ref a, .ref b, .long v2, .int (n + (nI 1)), .int m])) (pu_pu _ _ _ _) ?_
    refine J_aload_n X (dt tX2_runs 64 rfl) 3 rfl ?_
    refine g_X2_21_4 X (dt tX2_runs 65 rfl) (pu_s _ _ _) rfl ?_
    refine J_aloadq X (dt tX2_runs 66 rfl) 2 rfl ?_
    have kj6 : ∀ v5 : Int32, v5 = (if (some a) = w0 then nI 0 else nI 1) → J Γ (pu h c (eo 4 [.ref a, .ref b, .long v2, .int (n + (nI 1)), .int m])) 0 0 147 [(6, .long (k_lasts pa la sa pb lb sb)), (5, .int (nI 1)), (4, va_rf w0), (0, .ref c), (1, .ref a), (2, .ref b), (3, .int m)] [.int v5] := by
      intro v5 ev5
      exact J_zret X rr (dt tX2_runs 71 rfl) (Nat.le_of_ble_eq_true rfl) (Nat.le_of_ble_eq_true rfl) (isB.nar (by rw [ev5]; exact isB_ite isB_0 isB_1)) (by subst_vars; exact ⟨rfl, rfl⟩)
    refine J_acmp_eq X (some a) w0 146 (dt tX2_runs 67 rfl) (by decide) (fun c4 => ?_) (fun c4 => ?_)
    · refine J_iconst X (nI 0) (dt tX2_runs 70 rfl) (by decide) ?_
      exact kj6 _ (if_pos c4).symm
    · refine J_iconst X (nI 1) (dt tX2_runs 68 rfl) (by decide) ?_
      refine J_goto X (tgt := 147) (dt tX2_runs 69 rfl) (by decide) ?_
      exact kj6 _ (if_neg c4).symm
  refine J_if_ne X 110 (dt tX2_runs 47 rfl) (by decide) (fun c1 => ?_) (fun c1 => ?_)
  · refine J_iload_n X (dt tX2_runs 50 rfl) 6 rfl ?_
    refine J_i2l X (dt tX2_runs 51 rfl) ?_
    refine J_lload X (dt tX2_runs 52 rfl) 0 rfl ?_
    refine J_ladd X (dt tX2_runs 53 rfl) ?_
    exact kj3 _ (if_neg c1).symm
  · refine J_ldc2 X (dt tX2_runs 48 rfl) q213 ?_
    refine J_goto X (tgt := 115) (dt tX2_runs 49 rfl) (by decide) ?_
    exact kj3 _ (if_pos c1).symm
set_option maxHeartbeats 4000000 in
theorem c_CrunsB (l : Launch) (D : va_G) (h : PH) {c : Nat} {w0 o0 : Option Nat} {u : Int64} {n t : Int32} (m : Int32) {a b : Nat} {la pa sa da : Int32} {lb pb sb db : Int32} (hc : h c = some (eo 4 [va_rf w0, va_rf o0, .long u, .int n, .int t])) (ha : h a = some (eo 10 [.int la, .int pa, .int sa, .int da])) (hb : h b = some (eo 10 [.int lb, .int pb, .int sb, .int db])) (hx : k_ahead pa la pb lb = 0) : Ct l D yX2_runs cX2_runs 8 (some .boolean) (rmC 2 46 0 0) [.ref c, .ref a, .ref b, .int m] h (PS (pu h c (eo 4 [.ref b, .ref a, .long (k_until (k_lasts pb lb sb pa la sa) m), .int (n + nI 1), .int m])) (some (.int (k_other (some b) w0)))) := by
  refine Ct.of (by decide) rfl (fun Γ X rr hmn => ?_)
  have X : Cx l D cX2_runs RX2 8 (rmC 2 46 0 0) Γ := X
  show J Γ h 0 0 0 [(0, .ref c), (1, .ref a), (2, .ref b), (3, .int m)] []
  refine J_aload_n X (dt tX2_runs 0 rfl) 0 rfl ?_
  refine g_X2_21_4 X (dt tX2_runs 1 rfl) hc rfl ?_
  refine J_astoreq X (lv2 := [(4, va_rf w0), (0, .ref c), (1, .ref a), (2, .ref b), (3, .int m)]) (dt tX2_runs 2 rfl) rfl rfl ?_
  refine J_aload_n X (dt tX2_runs 3 rfl) 2 rfl ?_
  refine J_ifnull X (some a) 28 (dt tX2_runs 4 rfl) (by decide) (fun c9 => by cases c9) (fun _ _ => ?_)
  refine J_aload_n X (dt tX2_runs 5 rfl) 3 rfl ?_
  refine J_ifnull X (some b) 24 (dt tX2_runs 6 rfl) (by decide) (fun c9 => by cases c9) (fun _ _ => ?_)
  refine J_aload_n X (dt tX2_runs 7 rfl) 2 rfl ?_
  refine J_aload_n X (dt tX2_runs 8 rfl) 3 rfl ?_
  refine J_callF (na := 1) (rest := []) X (T := TX5) (C := RX5) (x := ⟨"LeadRaces$Racing", "isAhead", "(Ljava/lang/Object;)Z"⟩) (dt tX2_runs 9 rfl) (c_RaheadO l D _ ha hb) (lw_F q555 q559 q561 q93 q563) (List.mem_of_getElem? (i := 0) rfl) (by decide) rfl (Or.inl ha) rfl ⟨Nat.le_of_ble_eq_true rfl, Nat.le_of_ble_eq_true rfl⟩ rfl (Nat.le_of_ble_eq_true rfl) (Nat.le_of_ble_eq_true rfl) (Nat.le_of_ble_eq_true rfl) (fun v9 h9 hp9 => ?_)
  obtain ⟨rfl, e9⟩ := hp9
  rw [e9]
  show J Γ h 0 0 21 [(4, va_rf w0), (0, .ref c), (1, .ref a), (2, .ref b), (3, .int m)] [.int (k_ahead pa la pb lb)]
  refine J_if_eq X 28 (dt tX2_runs 10 rfl) (by decide) (fun _ => ?_) (fun c9 => absurd (hx) c9)
  refine J_iconst X (nI 0) (dt tX2_runs 13 rfl) (by decide) ?_
  refine J_istore X (lv2 := [(5, .int (nI 0)), (4, va_rf w0), (0, .ref c), (1, .ref a), (2, .ref b), (3, .int m)]) (dt tX2_runs 14 rfl) (by cases w0 <;> rfl) rfl ?_
  refine J_aload_n X (dt tX2_runs 15 rfl) 2 rfl ?_
  refine J_iload X (dt tX2_runs 16 rfl) 0 rfl ?_
  refine J_if_eq X 41 (dt tX2_runs 17 rfl) (by decide) (fun _ => ?_) (fun c9 => absurd (by decide) c9)
  refine J_aload_n X (dt tX2_runs 20 rfl) 4 rfl ?_
  refine p_X2_21_4 X (fs2 := [.ref b, va_rf o0, .long u, .int n, .int t]) (dt tX2_runs 21 rfl) hc rfl rfl rfl rfl ?_
  refine J_aload_n X (dt tX2_runs 22 rfl) 2 rfl ?_
  refine J_iload X (dt tX2_runs 23 rfl) 0 rfl ?_
  refine J_if_eq X 55 (dt tX2_runs 24 rfl) (by decide) (fun _ => ?_) (fun c9 => absurd (by decide) c9)
  refine J_aload_n X (dt tX2_runs 27 rfl) 3 rfl ?_
  refine p_X2_31_4 X (fs2 := [.ref b, .ref a, .long u, .int n, .int t]) (dt tX2_runs 28 rfl) (pu_s _ _ _) rfl rfl rfl rfl ?_
  refine J_heap (h2 := pu h c (eo 4 [.ref b, .ref a, .long u, .int n, .int t])) (pu_pu _ _ _ _) ?_
  refine J_aload_n X (dt tX2_runs 29 rfl) 2 rfl ?_
  refine g_X2_21_4 X (dt tX2_runs 30 rfl) (pu_s _ _ _) rfl ?_
  refine J_ifnull X (some b) 73 (dt tX2_runs 31 rfl) (by decide) (fun c9 => by cases c9) (fun _ _ => ?_)
  refine J_aload_n X (dt tX2_runs 32 rfl) 2 rfl ?_
  refine g_X2_31_4 X (dt tX2_runs 33 rfl) (pu_s _ _ _) rfl ?_
  refine J_ifnonnull X (some a) 79 (dt tX2_runs 34 rfl) (by decide) (fun _ _ => ?_) (fun c9 => by cases c9)
  refine J_aload_n X (dt tX2_runs 37 rfl) 2 rfl ?_
  refine g_X2_21_4 X (dt tX2_runs 38 rfl) (pu_s _ _ _) rfl ?_
  refine J_aload_n X (dt tX2_runs 39 rfl) 2 rfl ?_
  refine g_X2_31_4 X (dt tX2_runs 40 rfl) (pu_s _ _ _) rfl ?_
  refine J_callF (na := 1) (rest := []) X (T := TX5) (C := RX5) (x := ⟨"LeadRaces$Racing", "lasts", "(Ljava/lang/Object;)J"⟩) (dt tX2_runs 41 rfl) (c_RlastsO l D _ (pu_o (ne_c hb hc (by decide)) hb) (pu_o (ne_c ha hc (by decide)) ha)) (lw_F q570 q573 q575 q93 q577) (List.mem_of_getElem? (i := 1) rfl) (by decide) rfl (Or.inl (pu_o (ne_c hb hc (by decide)) hb)) rfl ⟨Nat.le_of_ble_eq_true rfl, Nat.le_of_ble_eq_true rfl⟩ rfl (Nat.le_of_ble_eq_true rfl) (Nat.le_of_ble_eq_true rfl) (Nat.le_of_ble_eq_true rfl) (fun v9 h9 hp9 => ?_)
  obtain ⟨rfl, e9⟩ := hp9
  rw [e9]
  show J Γ (pu h c (eo 4 [.ref b, .ref a, .long u, .int n, .int t])) 0 0 92 [(5, .int (nI 0)), (4, va_rf w0), (0, .ref c), (1, .ref a), (2, .ref b), (3, .int m)] [.long (k_lasts pb lb sb pa la sa)]
  refine J_lstore X (lv2 := [(6, .long (k_lasts pb lb sb pa la sa)), (5, .int (nI 0)), (4, va_rf w0), (0, .ref c), (1, .ref a), (2, .ref b), (3, .int m)]) (dt tX2_runs 42 rfl) rfl rfl ?_
  refine J_aload_n X (dt tX2_runs 43 rfl) 3 rfl ?_
  refine J_lload X (dt tX2_runs 44 rfl) 0 rfl ?_
  refine J_ldc2 X (dt tX2_runs 45 rfl) q213 ?_
  refine J_lcmp X (dt tX2_runs 46 rfl) ?_
  have kj3 : ∀ v2 : Int64, v2 = (if (lg_cmp (k_lasts pb lb sb pa la sa) (9223372036854775807)) = 0 then (9223372036854775807) else m.toInt64 + (k_lasts pb lb sb pa la sa)) → J Γ (pu h c (eo 4 [.ref b, .ref a, .long u, .int n, .int t])) 0 0 115 [(6, .long (k_lasts pb lb sb pa la sa)), (5, .int (nI 0)), (4, va_rf w0), (0, .ref c), (1, .ref a), (2, .ref b), (3, .int m)] [.long v2, .ref c] := by
    intro v2 ev2
    refine p_X2_11_4 X (fs2 := [.ref b, .ref a, .long v2, .int n, .int t]) (dt tX2_runs 54 rfl) (pu_s _ _ _) rfl rfl rfl rfl ?_
    refine J_heap (h2 := pu h c (eo 4 [.ref b, .ref a, .long v2, .int n, .int t])) (pu_pu _ _ _ _) ?_
    refine J_aload_n X (dt tX2_runs 55 rfl) 3 rfl ?_
    refine J_dup X (dt tX2_runs 56 rfl) rfl ?_
    refine g_X2_38_4 X (dt tX2_runs 57 rfl) (pu_s _ _ _) rfl ?_
    refine J_iconst X (nI 1) (dt tX2_runs 58 rfl) (by decide) ?_
    refine J_iadd X (dt tX2_runs 59 rfl) ?_
    refine p_X2_38_4 X (fs2 := [.ref b, .ref a, .long v2, .int (n + (nI 1)), .int t]) (dt tX2_runs 60 rfl) (pu_s _ _ _) rfl rfl rfl rfl ?_
    refine J_heap (h2 := pu h c (eo 4 [.ref b, .ref a, .long v2, .int (n + (nI 1)), .int t])) (pu_pu _ _ _ _) ?_
    refine J_aload_n X (dt tX2_runs 61 rfl) 3 rfl ?_
    refine J_iload_n X (dt tX2_runs 62 rfl) 6 rfl ?_
    refine p_X2_17_4 X (fs2 := [.ref b, .ref a, .long v2, .int (n + (nI 1)), .int m]) (dt tX2_runs 63 rfl) (pu_s _ _ _) rfl rfl rfl rfl ?_
    refine J_heap (h2 := pu h c (eo 4 [.ref b, .ref a, .long v2, .int (n + (nI 1)), .int m])) (pu_pu _ _ _ _) ?_
    refine J_aload_n X (dt tX2_runs 64 rfl) 3 rfl ?_
    refine g_X2_21_4 X (dt tX2_runs 65 rfl) (pu_s _ _ _) rfl ?_
    refine J_aloadq X (dt tX2_runs 66 rfl) 2 rfl ?_
    have kj6 : ∀ v5 : Int32, v5 = (if (some b) = w0 then nI 0 else nI 1) → J Γ (pu h c (eo 4 [.ref b, .ref a, .long v2, .int (n + (nI 1)), .int m])) 0 0 147 [(6, .long (k_lasts pb lb sb pa la sa)), (5, .int (nI 0)), (4, va_rf w0), (0, .ref c), (1, .ref a), (2, .ref b), (3, .int m)] [.int v5] := by
      intro v5 ev5
      exact J_zret X rr (dt tX2_runs 71 rfl) (Nat.le_of_ble_eq_true rfl) (Nat.le_of_ble_eq_true rfl) (isB.nar (by rw [ev5]; exact isB_ite isB_0 isB_1)) (by subst_vars; exact ⟨rfl, rfl⟩)
    refine J_acmp_eq X (some b) w0 146 (dt tX2_runs 67 rfl) (by decide) (fun c4 => ?_) (fun c4 => ?_)
    · refine J_iconst X (nI 0) (dt tX2_runs 70 rfl) (by decide) ?_
      exact kj6 _ (if_pos c4).symm
    · refine J_iconst X (nI 1) (dt tX2_runs 68 rfl) (by decide) ?_
      refine J_goto X (tgt := 147) (dt tX2_runs 69 rfl) (by decide) ?_
      exact kj6 _ (if_neg c4).symm
  refine J_if_ne X 110 (dt tX2_runs 47 rfl) (by decide) (fun c1 => ?_) (fun c1 => ?_)
  · refine J_iload_n X (dt tX2_runs 50 rfl) 6 rfl ?_
    refine J_i2l X (dt tX2_runs 51 rfl) ?_
    refine J_lload X (dt tX2_runs 52 rfl) 0 rfl ?_
    refine J_ladd X (dt tX2_runs 53 rfl) ?_
    exact kj3 _ (if_neg c1).symm
  · refine J_ldc2 X (dt tX2_runs 48 rfl) q213 ?_
    refine J_goto X (tgt := 115) (dt tX2_runs 49 rfl) (by decide) ?_
    exact kj3 _ (if_pos c1).symm
set_option maxHeartbeats 4000000 in
theorem c_CrunsNN (l : Launch) (D : va_G) (h : PH) {c : Nat} {w0 o0 : Option Nat} {u : Int64} {n t : Int32} (m : Int32) (hc : h c = some (eo 4 [va_rf w0, va_rf o0, .long u, .int n, .int t]))  : Ct l D yX2_runs cX2_runs 8 (some .boolean) (rmC 2 46 0 0) [.ref c, .null, .null, .int m] h (PS (pu h c (eo 4 [.null, .null, .long (9223372036854775807), .int (n + nI 1), .int m])) (some (.int (k_other none w0)))) := by
  refine Ct.of (by decide) rfl (fun Γ X rr hmn => ?_)
  have X : Cx l D cX2_runs RX2 8 (rmC 2 46 0 0) Γ := X
  show J Γ h 0 0 0 [(0, .ref c), (1, .null), (2, .null), (3, .int m)] []
  refine J_aload_n X (dt tX2_runs 0 rfl) 0 rfl ?_
  refine g_X2_21_4 X (dt tX2_runs 1 rfl) hc rfl ?_
  refine J_astoreq X (lv2 := [(4, va_rf w0), (0, .ref c), (1, .null), (2, .null), (3, .int m)]) (dt tX2_runs 2 rfl) rfl rfl ?_
  refine J_aload_nN X (dt tX2_runs 3 rfl) 2 rfl ?_
  refine J_ifnull X none 28 (dt tX2_runs 4 rfl) (by decide) (fun _ => ?_) (fun _ c9 => by cases c9)
  refine J_iconst X (nI 0) (dt tX2_runs 13 rfl) (by decide) ?_
  refine J_istore X (lv2 := [(5, .int (nI 0)), (4, va_rf w0), (0, .ref c), (1, .null), (2, .null), (3, .int m)]) (dt tX2_runs 14 rfl) (by cases w0 <;> rfl) rfl ?_
  refine J_aload_n X (dt tX2_runs 15 rfl) 2 rfl ?_
  refine J_iload X (dt tX2_runs 16 rfl) 0 rfl ?_
  refine J_if_eq X 41 (dt tX2_runs 17 rfl) (by decide) (fun _ => ?_) (fun c9 => absurd (by decide) c9)
  refine J_aload_nN X (dt tX2_runs 20 rfl) 4 rfl ?_
  refine p_X2_21_4 X (fs2 := [.null, va_rf o0, .long u, .int n, .int t]) (dt tX2_runs 21 rfl) hc rfl rfl rfl rfl ?_
  refine J_aload_n X (dt tX2_runs 22 rfl) 2 rfl ?_
  refine J_iload X (dt tX2_runs 23 rfl) 0 rfl ?_
  refine J_if_eq X 55 (dt tX2_runs 24 rfl) (by decide) (fun _ => ?_) (fun c9 => absurd (by decide) c9)
  refine J_aload_nN X (dt tX2_runs 27 rfl) 3 rfl ?_
  refine p_X2_31_4 X (fs2 := [.null, .null, .long u, .int n, .int t]) (dt tX2_runs 28 rfl) (pu_s _ _ _) rfl rfl rfl rfl ?_
  refine J_heap (h2 := pu h c (eo 4 [.null, .null, .long u, .int n, .int t])) (pu_pu _ _ _ _) ?_
  refine J_aload_n X (dt tX2_runs 29 rfl) 2 rfl ?_
  refine g_X2_21_4 X (dt tX2_runs 30 rfl) (pu_s _ _ _) rfl ?_
  refine J_ifnull X none 73 (dt tX2_runs 31 rfl) (by decide) (fun _ => ?_) (fun _ c9 => by cases c9)
  refine J_ldc2 X (dt tX2_runs 35 rfl) q213 ?_
  refine J_goto X (tgt := 92) (dt tX2_runs 36 rfl) (by decide) ?_
  refine J_lstore X (lv2 := [(6, .long (9223372036854775807)), (5, .int (nI 0)), (4, va_rf w0), (0, .ref c), (1, .null), (2, .null), (3, .int m)]) (dt tX2_runs 42 rfl) rfl rfl ?_
  refine J_aload_n X (dt tX2_runs 43 rfl) 3 rfl ?_
  refine J_lload X (dt tX2_runs 44 rfl) 0 rfl ?_
  refine J_ldc2 X (dt tX2_runs 45 rfl) q213 ?_
  refine J_lcmp X (dt tX2_runs 46 rfl) ?_
  refine J_if_ne X 110 (dt tX2_runs 47 rfl) (by decide) (fun c9 => absurd (by decide) c9) (fun _ => ?_)
  refine J_ldc2 X (dt tX2_runs 48 rfl) q213 ?_
  refine J_goto X (tgt := 115) (dt tX2_runs 49 rfl) (by decide) ?_
  refine p_X2_11_4 X (fs2 := [.null, .null, .long (9223372036854775807), .int n, .int t]) (dt tX2_runs 54 rfl) (pu_s _ _ _) rfl rfl rfl rfl ?_
  refine J_heap (h2 := pu h c (eo 4 [.null, .null, .long (9223372036854775807), .int n, .int t])) (pu_pu _ _ _ _) ?_
  refine J_aload_n X (dt tX2_runs 55 rfl) 3 rfl ?_
  refine J_dup X (dt tX2_runs 56 rfl) rfl ?_
  refine g_X2_38_4 X (dt tX2_runs 57 rfl) (pu_s _ _ _) rfl ?_
  refine J_iconst X (nI 1) (dt tX2_runs 58 rfl) (by decide) ?_
  refine J_iadd X (dt tX2_runs 59 rfl) ?_
  refine p_X2_38_4 X (fs2 := [.null, .null, .long (9223372036854775807), .int (n + (nI 1)), .int t]) (dt tX2_runs 60 rfl) (pu_s _ _ _) rfl rfl rfl rfl ?_
  refine J_heap (h2 := pu h c (eo 4 [.null, .null, .long (9223372036854775807), .int (n + (nI 1)), .int t])) (pu_pu _ _ _ _) ?_
  refine J_aload_n X (dt tX2_runs 61 rfl) 3 rfl ?_
  refine J_iload_n X (dt tX2_runs 62 rfl) 6 rfl ?_
  refine p_X2_17_4 X (fs2 := [.null, .null, .long (9223372036854775807), .int (n + (nI 1)), .int m]) (dt tX2_runs 63 rfl) (pu_s _ _ _) rfl rfl rfl rfl ?_
  refine J_heap (h2 := pu h c (eo 4 [.null, .null, .long (9223372036854775807), .int (n + (nI 1)), .int m])) (pu_pu _ _ _ _) ?_
  refine J_aload_n X (dt tX2_runs 64 rfl) 3 rfl ?_
  refine g_X2_21_4 X (dt tX2_runs 65 rfl) (pu_s _ _ _) rfl ?_
  refine J_aloadq X (dt tX2_runs 66 rfl) 2 rfl ?_
  have kj3 : ∀ v2 : Int32, v2 = (if none = w0 then nI 0 else nI 1) → J Γ (pu h c (eo 4 [.null, .null, .long (9223372036854775807), .int (n + (nI 1)), .int m])) 0 0 147 [(6, .long (9223372036854775807)), (5, .int (nI 0)), (4, va_rf w0), (0, .ref c), (1, .null), (2, .null), (3, .int m)] [.int v2] := by
    intro v2 ev2
    exact J_zret X rr (dt tX2_runs 71 rfl) (Nat.le_of_ble_eq_true rfl) (Nat.le_of_ble_eq_true rfl) (isB.nar (by rw [ev2]; exact isB_ite isB_0 isB_1)) ⟨congrArg (fun z => some (Value.int z)) ev2, rfl⟩
  refine J_acmp_eq X none w0 146 (dt tX2_runs 67 rfl) (by decide) (fun c1 => ?_) (fun c1 => ?_)
  · refine J_iconst X (nI 0) (dt tX2_runs 70 rfl) (by decide) ?_
    exact kj3 _ (if_pos c1).symm
  · refine J_iconst X (nI 1) (dt tX2_runs 68 rfl) (by decide) ?_
    refine J_goto X (tgt := 147) (dt tX2_runs 69 rfl) (by decide) ?_
    exact kj3 _ (if_neg c1).symm
set_option maxHeartbeats 4000000 in
theorem c_CrunsRN (l : Launch) (D : va_G) (h : PH) {c : Nat} {w0 o0 : Option Nat} {u : Int64} {n t : Int32} (m : Int32) {a : Nat} (hc : h c = some (eo 4 [va_rf w0, va_rf o0, .long u, .int n, .int t]))  : Ct l D yX2_runs cX2_runs 8 (some .boolean) (rmC 2 46 0 0) [.ref c, .ref a, .null, .int m] h (PS (pu h c (eo 4 [.ref a, .null, .long (9223372036854775807), .int (n + nI 1), .int m])) (some (.int (k_other (some a) w0)))) := by
  refine Ct.of (by decide) rfl (fun Γ X rr hmn => ?_)
  have X : Cx l D cX2_runs RX2 8 (rmC 2 46 0 0) Γ := X
  show J Γ h 0 0 0 [(0, .ref c), (1, .ref a), (2, .null), (3, .int m)] []
  refine J_aload_n X (dt tX2_runs 0 rfl) 0 rfl ?_
  refine g_X2_21_4 X (dt tX2_runs 1 rfl) hc rfl ?_
  refine J_astoreq X (lv2 := [(4, va_rf w0), (0, .ref c), (1, .ref a), (2, .null), (3, .int m)]) (dt tX2_runs 2 rfl) rfl rfl ?_
  refine J_aload_n X (dt tX2_runs 3 rfl) 2 rfl ?_
  refine J_ifnull X (some a) 28 (dt tX2_runs 4 rfl) (by decide) (fun c9 => by cases c9) (fun _ _ => ?_)
  refine J_aload_nN X (dt tX2_runs 5 rfl) 3 rfl ?_
  refine J_ifnull X none 24 (dt tX2_runs 6 rfl) (by decide) (fun _ => ?_) (fun _ c9 => by cases c9)
  refine J_iconst X (nI 1) (dt tX2_runs 11 rfl) (by decide) ?_
  refine J_goto X (tgt := 29) (dt tX2_runs 12 rfl) (by decide) ?_
  refine J_istore X (lv2 := [(5, .int (nI 1)), (4, va_rf w0), (0, .ref c), (1, .ref a), (2, .null), (3, .int m)]) (dt tX2_runs 14 rfl) (by cases w0 <;> rfl) rfl ?_
  refine J_aload_n X (dt tX2_runs 15 rfl) 2 rfl ?_
  refine J_iload X (dt tX2_runs 16 rfl) 0 rfl ?_
  refine J_if_eq X 41 (dt tX2_runs 17 rfl) (by decide) (fun c9 => absurd c9 (by decide)) (fun _ => ?_)
  refine J_aload_n X (dt tX2_runs 18 rfl) 3 rfl ?_
  refine J_goto X (tgt := 42) (dt tX2_runs 19 rfl) (by decide) ?_
  refine p_X2_21_4 X (fs2 := [.ref a, va_rf o0, .long u, .int n, .int t]) (dt tX2_runs 21 rfl) hc rfl rfl rfl rfl ?_
  refine J_aload_n X (dt tX2_runs 22 rfl) 2 rfl ?_
  refine J_iload X (dt tX2_runs 23 rfl) 0 rfl ?_
  refine J_if_eq X 55 (dt tX2_runs 24 rfl) (by decide) (fun c9 => absurd c9 (by decide)) (fun _ => ?_)
  refine J_aload_nN X (dt tX2_runs 25 rfl) 4 rfl ?_
  refine J_goto X (tgt := 56) (dt tX2_runs 26 rfl) (by decide) ?_
  refine p_X2_31_4 X (fs2 := [.ref a, .null, .long u, .int n, .int t]) (dt tX2_runs 28 rfl) (pu_s _ _ _) rfl rfl rfl rfl ?_
  refine J_heap (h2 := pu h c (eo 4 [.ref a, .null, .long u, .int n, .int t])) (pu_pu _ _ _ _) ?_
  refine J_aload_n X (dt tX2_runs 29 rfl) 2 rfl ?_
  refine g_X2_21_4 X (dt tX2_runs 30 rfl) (pu_s _ _ _) rfl ?_
  refine J_ifnull X (some a) 73 (dt tX2_runs 31 rfl) (by decide) (fun c9 => by cases c9) (fun _ _ => ?_)
  refine J_aload_n X (dt tX2_runs 32 rfl) 2 rfl ?_
  refine g_X2_31_4 X (dt tX2_runs 33 rfl) (pu_s _ _ _) rfl ?_
  refine J_ifnonnull X none 79 (dt tX2_runs 34 rfl) (by decide) (fun _ c9 => by cases c9) (fun _ => ?_)
  refine J_ldc2 X (dt tX2_runs 35 rfl) q213 ?_
  refine J_goto X (tgt := 92) (dt tX2_runs 36 rfl) (by decide) ?_
  refine J_lstore X (lv2 := [(6, .long (9223372036854775807)), (5, .int (nI 1)), (4, va_rf w0), (0, .ref c), (1, .ref a), (2, .null), (3, .int m)]) (dt tX2_runs 42 rfl) rfl rfl ?_
  refine J_aload_n X (dt tX2_runs 43 rfl) 3 rfl ?_
  refine J_lload X (dt tX2_runs 44 rfl) 0 rfl ?_
  refine J_ldc2 X (dt tX2_runs 45 rfl) q213 ?_
  refine J_lcmp X (dt tX2_runs 46 rfl) ?_
  refine J_if_ne X 110 (dt tX2_runs 47 rfl) (by decide) (fun c9 => absurd (by decide) c9) (fun _ => ?_)
  refine J_ldc2 X (dt tX2_runs 48 rfl) q213 ?_
  refine J_goto X (tgt := 115) (dt tX2_runs 49 rfl) (by decide) ?_
  refine p_X2_11_4 X (fs2 := [.ref a, .null, .long (9223372036854775807), .int n, .int t]) (dt tX2_runs 54 rfl) (pu_s _ _ _) rfl rfl rfl rfl ?_
  refine J_heap (h2 := pu h c (eo 4 [.ref a, .null, .long (9223372036854775807), .int n, .int t])) (pu_pu _ _ _ _) ?_
  refine J_aload_n X (dt tX2_runs 55 rfl) 3 rfl ?_
  refine J_dup X (dt tX2_runs 56 rfl) rfl ?_
  refine g_X2_38_4 X (dt tX2_runs 57 rfl) (pu_s _ _ _) rfl ?_
  refine J_iconst X (nI 1) (dt tX2_runs 58 rfl) (by decide) ?_
  refine J_iadd X (dt tX2_runs 59 rfl) ?_
  refine p_X2_38_4 X (fs2 := [.ref a, .null, .long (9223372036854775807), .int (n + (nI 1)), .int t]) (dt tX2_runs 60 rfl) (pu_s _ _ _) rfl rfl rfl rfl ?_
  refine J_heap (h2 := pu h c (eo 4 [.ref a, .null, .long (9223372036854775807), .int (n + (nI 1)), .int t])) (pu_pu _ _ _ _) ?_
  refine J_aload_n X (dt tX2_runs 61 rfl) 3 rfl ?_
  refine J_iload_n X (dt tX2_runs 62 rfl) 6 rfl ?_
  refine p_X2_17_4 X (fs2 := [.ref a, .null, .long (9223372036854775807), .int (n + (nI 1)), .int m]) (dt tX2_runs 63 rfl) (pu_s _ _ _) rfl rfl rfl rfl ?_
  refine J_heap (h2 := pu h c (eo 4 [.ref a, .null, .long (9223372036854775807), .int (n + (nI 1)), .int m])) (pu_pu _ _ _ _) ?_
  refine J_aload_n X (dt tX2_runs 64 rfl) 3 rfl ?_
  refine g_X2_21_4 X (dt tX2_runs 65 rfl) (pu_s _ _ _) rfl ?_
  refine J_aloadq X (dt tX2_runs 66 rfl) 2 rfl ?_
  have kj3 : ∀ v2 : Int32, v2 = (if (some a) = w0 then nI 0 else nI 1) → J Γ (pu h c (eo 4 [.ref a, .null, .long (9223372036854775807), .int (n + (nI 1)), .int m])) 0 0 147 [(6, .long (9223372036854775807)), (5, .int (nI 1)), (4, va_rf w0), (0, .ref c), (1, .ref a), (2, .null), (3, .int m)] [.int v2] := by
    intro v2 ev2
    exact J_zret X rr (dt tX2_runs 71 rfl) (Nat.le_of_ble_eq_true rfl) (Nat.le_of_ble_eq_true rfl) (isB.nar (by rw [ev2]; exact isB_ite isB_0 isB_1)) ⟨congrArg (fun z => some (Value.int z)) ev2, rfl⟩
  refine J_acmp_eq X (some a) w0 146 (dt tX2_runs 67 rfl) (by decide) (fun c1 => ?_) (fun c1 => ?_)
  · refine J_iconst X (nI 0) (dt tX2_runs 70 rfl) (by decide) ?_
    exact kj3 _ (if_pos c1).symm
  · refine J_iconst X (nI 1) (dt tX2_runs 68 rfl) (by decide) ?_
    refine J_goto X (tgt := 147) (dt tX2_runs 69 rfl) (by decide) ?_
    exact kj3 _ (if_neg c1).symm
set_option maxHeartbeats 4000000 in
theorem c_CrunsNR (l : Launch) (D : va_G) (h : PH) {c : Nat} {w0 o0 : Option Nat} {u : Int64} {n t : Int32} (m : Int32) {b : Nat} (hc : h c = some (eo 4 [va_rf w0, va_rf o0, .long u, .int n, .int t]))  : Ct l D yX2_runs cX2_runs 8 (some .boolean) (rmC 2 46 0 0) [.ref c, .null, .ref b, .int m] h (PS (pu h c (eo 4 [.ref b, .null, .long (9223372036854775807), .int (n + nI 1), .int m])) (some (.int (k_other (some b) w0)))) := by
  refine Ct.of (by decide) rfl (fun Γ X rr hmn => ?_)
  have X : Cx l D cX2_runs RX2 8 (rmC 2 46 0 0) Γ := X
  show J Γ h 0 0 0 [(0, .ref c), (1, .null), (2, .ref b), (3, .int m)] []
  refine J_aload_n X (dt tX2_runs 0 rfl) 0 rfl ?_
  refine g_X2_21_4 X (dt tX2_runs 1 rfl) hc rfl ?_
  refine J_astoreq X (lv2 := [(4, va_rf w0), (0, .ref c), (1, .null), (2, .ref b), (3, .int m)]) (dt tX2_runs 2 rfl) rfl rfl ?_
  refine J_aload_nN X (dt tX2_runs 3 rfl) 2 rfl ?_
  refine J_ifnull X none 28 (dt tX2_runs 4 rfl) (by decide) (fun _ => ?_) (fun _ c9 => by cases c9)
  refine J_iconst X (nI 0) (dt tX2_runs 13 rfl) (by decide) ?_
  refine J_istore X (lv2 := [(5, .int (nI 0)), (4, va_rf w0), (0, .ref c), (1, .null), (2, .ref b), (3, .int m)]) (dt tX2_runs 14 rfl) (by cases w0 <;> rfl) rfl ?_
  refine J_aload_n X (dt tX2_runs 15 rfl) 2 rfl ?_
  refine J_iload X (dt tX2_runs 16 rfl) 0 rfl ?_
  refine J_if_eq X 41 (dt tX2_runs 17 rfl) (by decide) (fun _ => ?_) (fun c9 => absurd (by decide) c9)
  refine J_aload_n X (dt tX2_runs 20 rfl) 4 rfl ?_
  refine p_X2_21_4 X (fs2 := [.ref b, va_rf o0, .long u, .int n, .int t]) (dt tX2_runs 21 rfl) hc rfl rfl rfl rfl ?_
  refine J_aload_n X (dt tX2_runs 22 rfl) 2 rfl ?_
  refine J_iload X (dt tX2_runs 23 rfl) 0 rfl ?_
  refine J_if_eq X 55 (dt tX2_runs 24 rfl) (by decide) (fun _ => ?_) (fun c9 => absurd (by decide) c9)
  refine J_aload_nN X (dt tX2_runs 27 rfl) 3 rfl ?_
  refine p_X2_31_4 X (fs2 := [.ref b, .null, .long u, .int n, .int t]) (dt tX2_runs 28 rfl) (pu_s _ _ _) rfl rfl rfl rfl ?_
  refine J_heap (h2 := pu h c (eo 4 [.ref b, .null, .long u, .int n, .int t])) (pu_pu _ _ _ _) ?_
  refine J_aload_n X (dt tX2_runs 29 rfl) 2 rfl ?_
  refine g_X2_21_4 X (dt tX2_runs 30 rfl) (pu_s _ _ _) rfl ?_
  refine J_ifnull X (some b) 73 (dt tX2_runs 31 rfl) (by decide) (fun c9 => by cases c9) (fun _ _ => ?_)
  refine J_aload_n X (dt tX2_runs 32 rfl) 2 rfl ?_
  refine g_X2_31_4 X (dt tX2_runs 33 rfl) (pu_s _ _ _) rfl ?_
  refine J_ifnonnull X none 79 (dt tX2_runs 34 rfl) (by decide) (fun _ c9 => by cases c9) (fun _ => ?_)
  refine J_ldc2 X (dt tX2_runs 35 rfl) q213 ?_
  refine J_goto X (tgt := 92) (dt tX2_runs 36 rfl) (by decide) ?_
  refine J_lstore X (lv2 := [(6, .long (9223372036854775807)), (5, .int (nI 0)), (4, va_rf w0), (0, .ref c), (1, .null), (2, .ref b), (3, .int m)]) (dt tX2_runs 42 rfl) rfl rfl ?_
  refine J_aload_n X (dt tX2_runs 43 rfl) 3 rfl ?_
  refine J_lload X (dt tX2_runs 44 rfl) 0 rfl ?_
  refine J_ldc2 X (dt tX2_runs 45 rfl) q213 ?_
  refine J_lcmp X (dt tX2_runs 46 rfl) ?_
  refine J_if_ne X 110 (dt tX2_runs 47 rfl) (by decide) (fun c9 => absurd (by decide) c9) (fun _ => ?_)
  refine J_ldc2 X (dt tX2_runs 48 rfl) q213 ?_
  refine J_goto X (tgt := 115) (dt tX2_runs 49 rfl) (by decide) ?_
  refine p_X2_11_4 X (fs2 := [.ref b, .null, .long (9223372036854775807), .int n, .int t]) (dt tX2_runs 54 rfl) (pu_s _ _ _) rfl rfl rfl rfl ?_
  refine J_heap (h2 := pu h c (eo 4 [.ref b, .null, .long (9223372036854775807), .int n, .int t])) (pu_pu _ _ _ _) ?_
  refine J_aload_n X (dt tX2_runs 55 rfl) 3 rfl ?_
  refine J_dup X (dt tX2_runs 56 rfl) rfl ?_
  refine g_X2_38_4 X (dt tX2_runs 57 rfl) (pu_s _ _ _) rfl ?_
  refine J_iconst X (nI 1) (dt tX2_runs 58 rfl) (by decide) ?_
  refine J_iadd X (dt tX2_runs 59 rfl) ?_
  refine p_X2_38_4 X (fs2 := [.ref b, .null, .long (9223372036854775807), .int (n + (nI 1)), .int t]) (dt tX2_runs 60 rfl) (pu_s _ _ _) rfl rfl rfl rfl ?_
  refine J_heap (h2 := pu h c (eo 4 [.ref b, .null, .long (9223372036854775807), .int (n + (nI 1)), .int t])) (pu_pu _ _ _ _) ?_
  refine J_aload_n X (dt tX2_runs 61 rfl) 3 rfl ?_
  refine J_iload_n X (dt tX2_runs 62 rfl) 6 rfl ?_
  refine p_X2_17_4 X (fs2 := [.ref b, .null, .long (9223372036854775807), .int (n + (nI 1)), .int m]) (dt tX2_runs 63 rfl) (pu_s _ _ _) rfl rfl rfl rfl ?_
  refine J_heap (h2 := pu h c (eo 4 [.ref b, .null, .long (9223372036854775807), .int (n + (nI 1)), .int m])) (pu_pu _ _ _ _) ?_
  refine J_aload_n X (dt tX2_runs 64 rfl) 3 rfl ?_
  refine g_X2_21_4 X (dt tX2_runs 65 rfl) (pu_s _ _ _) rfl ?_
  refine J_aloadq X (dt tX2_runs 66 rfl) 2 rfl ?_
  have kj3 : ∀ v2 : Int32, v2 = (if (some b) = w0 then nI 0 else nI 1) → J Γ (pu h c (eo 4 [.ref b, .null, .long (9223372036854775807), .int (n + (nI 1)), .int m])) 0 0 147 [(6, .long (9223372036854775807)), (5, .int (nI 0)), (4, va_rf w0), (0, .ref c), (1, .null), (2, .ref b), (3, .int m)] [.int v2] := by
    intro v2 ev2
    exact J_zret X rr (dt tX2_runs 71 rfl) (Nat.le_of_ble_eq_true rfl) (Nat.le_of_ble_eq_true rfl) (isB.nar (by rw [ev2]; exact isB_ite isB_0 isB_1)) ⟨congrArg (fun z => some (Value.int z)) ev2, rfl⟩
  refine J_acmp_eq X (some b) w0 146 (dt tX2_runs 67 rfl) (by decide) (fun c1 => ?_) (fun c1 => ?_)
  · refine J_iconst X (nI 0) (dt tX2_runs 70 rfl) (by decide) ?_
    exact kj3 _ (if_pos c1).symm
  · refine J_iconst X (nI 1) (dt tX2_runs 68 rfl) (by decide) ?_
    refine J_goto X (tgt := 147) (dt tX2_runs 69 rfl) (by decide) ?_
    exact kj3 _ (if_neg c1).symm
def k_isOne (r1 r2 : Option Nat) (x : Int32) : Prop := match r1, r2 with
  | none, _ => False
  | some _, none => True
  | some _, some _ => ¬ x = 0
def k_win (r1 r2 : Option Nat) (x : Int32) : Option Nat := match r1, r2 with
  | none, r => r
  | some a, none => some a
  | some a, some b => if x = 0 then some b else some a
def k_los (r1 r2 : Option Nat) (x : Int32) : Option Nat := match r1, r2 with
  | none, _ => none
  | some _, none => none
  | some a, some b => if x = 0 then some a else some b
def k_unt (r1 r2 : Option Nat) (x m : Int32) (L1 L2 : Int64) : Int64 := match r1, r2 with
  | some _, some _ => if x = 0 then k_until L2 m else k_until L1 m
  | _, _ => 9223372036854775807
/-- a race of two runners, or of fewer, is run -/
theorem c_Cruns (l : Launch) (D : va_G) (h : PH) {c : Nat} {w0 o0 : Option Nat} {u : Int64} {n t : Int32} (m : Int32) (r1 r2 : Option Nat) {la pa sa da : Int32} {lb pb sb db : Int32} (hc : h c = some (eo 4 [va_rf w0, va_rf o0, .long u, .int n, .int t])) (ha : ∀ a, r1 = some a → h a = some (eo 10 [.int la, .int pa, .int sa, .int da])) (hb : ∀ b, r2 = some b → h b = some (eo 10 [.int lb, .int pb, .int sb, .int db])) :
    Ct l D yX2_runs cX2_runs 8 (some .boolean) (rmC 2 46 0 0) [.ref c, va_rf r1, va_rf r2, .int m] h (PS (pu h c (eo 4 [va_rf (k_win r1 r2 (k_ahead pa la pb lb)), va_rf (k_los r1 r2 (k_ahead pa la pb lb)), .long (k_unt r1 r2 (k_ahead pa la pb lb) m (k_lasts pa la sa pb lb sb) (k_lasts pb lb sb pa la sa)), .int (n + nI 1), .int m])) (some (.int (k_other (k_win r1 r2 (k_ahead pa la pb lb)) w0)))) := by
  cases r1 with
  | none => cases r2 with
    | none => exact (c_CrunsNN l D h m hc)
    | some b => exact (c_CrunsNR l D h m hc)
  | some a => cases r2 with
    | none => exact (c_CrunsRN l D h m hc)
    | some b =>
      by_cases hx : k_ahead pa la pb lb = 0
      · have e := c_CrunsB l D h m hc (ha a rfl) (hb b rfl) hx
        unfold k_win k_los k_unt
        dsimp only
        rw [if_pos hx, if_pos hx, if_pos hx]
        exact e
      · have e := c_CrunsA l D h m hc (ha a rfl) (hb b rfl) hx
        unfold k_win k_los k_unt
        dsimp only
        rw [if_neg hx, if_neg hx, if_neg hx]
        exact e
def k_hasTwo (w o : Option Nat) : Int32 := if w = none then nI 0 else if o = none then nI 0 else nI 1
theorem k_hasTwo_B (w o : Option Nat) : isB (k_hasTwo w o) := isB_ite isB_0 (isB_ite isB_0 isB_1)
abbrev cX2_hasTwo : ByteArray := prog_5_method_3_code
def yX2_hasTwo : MethodName := ⟨RX2, "hasTwo", "()Z"⟩
theorem tX2_hasTwo : dtab cX2_hasTwo [(0, .aload_n 0, 1, 1), (1, .getfield 21, 3, 4), (4, .ifnull 14, 3, 7), (7, .aload_n 0, 1, 8), (8, .getfield 31, 3, 11), (11, .ifnull 7, 3, 14), (14, .iconst 1, 1, 15), (15, .goto 4, 3, 18), (18, .iconst 0, 1, 19), (19, .ireturn, 1, 20)] := by unfold dtab; decide +kernel
theorem okX2_hasTwo : okY yX2_hasTwo 0 := by decide +kernel
set_option maxHeartbeats 4000000 in
theorem c_ChasTwo (l : Launch) (D : va_G) (h : PH) {c : Nat} {w0 o0 : Option Nat} {u : Int64} {n t : Int32} (hc : h c = some (eo 4 [va_rf w0, va_rf o0, .long u, .int n, .int t]))  : Ct l D yX2_hasTwo cX2_hasTwo 1 (some .boolean) (rmC 0 0 0 0) [.ref c] h (PS h (some (.int (k_hasTwo w0 o0)))) := by
  refine Ct.of (by decide) rfl (fun Γ X rr hmn => ?_)
  have X : Cx l D cX2_hasTwo RX2 1 (rmC 0 0 0 0) Γ := X
  show J Γ h 0 0 0 [(0, .ref c)] []
  refine J_aload_n X (dt tX2_hasTwo 0 rfl) 0 rfl ?_
  refine g_X2_21_4 X (dt tX2_hasTwo 1 rfl) hc rfl ?_
  have kj4 : ∀ v3 : Int32, v3 = (if w0 = none then nI 0 else if o0 = none then nI 0 else nI 1) → J Γ h 0 0 19 [(0, .ref c)] [.int v3] := by
    intro v3 ev3
    exact J_zret X rr (dt tX2_hasTwo 9 rfl) (Nat.le_of_ble_eq_true rfl) (Nat.le_of_ble_eq_true rfl) (isB.nar (by rw [ev3]; exact k_hasTwo_B w0 o0)) ⟨congrArg (fun z => some (Value.int z)) ev3, rfl⟩
  refine J_ifnull X w0 18 (dt tX2_hasTwo 2 rfl) (by decide) (fun c1 => ?_) (fun ac1 c1 => ?_)
  · refine J_iconst X (nI 0) (dt tX2_hasTwo 8 rfl) (by decide) ?_
    exact kj4 _ (if_pos c1).symm
  · refine J_aload_n X (dt tX2_hasTwo 3 rfl) 0 rfl ?_
    refine g_X2_31_4 X (dt tX2_hasTwo 4 rfl) hc rfl ?_
    refine J_ifnull X o0 18 (dt tX2_hasTwo 5 rfl) (by decide) (fun c2 => ?_) (fun ac2 c2 => ?_)
    · refine J_iconst X (nI 0) (dt tX2_hasTwo 8 rfl) (by decide) ?_
      exact kj4 _ ((if_neg (by rw [c1]; exact nofun)).trans (if_pos c2)).symm
    · refine J_iconst X (nI 1) (dt tX2_hasTwo 6 rfl) (by decide) ?_
      refine J_goto X (tgt := 19) (dt tX2_hasTwo 7 rfl) (by decide) ?_
      exact kj4 _ ((if_neg (by rw [c1]; exact nofun)).trans (if_neg (by rw [c2]; exact nofun))).symm
abbrev cX2_copy : ByteArray := prog_5_method_4_code
def yX2_copy : MethodName := ⟨RX2, "copy", "(LLeadRaces$Racing;LLeadRaces$Racing;)LLeadRaces$Race;"⟩
theorem tX2_copy : dtab cX2_copy [(0, .new 12, 3, 3), (3, .dup, 1, 4), (4, .invokespecial 41, 3, 7), (7, .astore_n 3, 1, 8), (8, .aload_n 3, 1, 9), (9, .aload_n 1, 1, 10), (10, .putfield 21, 3, 13), (13, .aload_n 3, 1, 14), (14, .aload_n 2, 1, 15), (15, .putfield 31, 3, 18), (18, .aload_n 3, 1, 19), (19, .aload_n 0, 1, 20), (20, .getfield 11, 3, 23), (23, .putfield 11, 3, 26), (26, .aload_n 3, 1, 27), (27, .aload_n 0, 1, 28), (28, .getfield 38, 3, 31), (31, .putfield 38, 3, 34), (34, .aload_n 3, 1, 35), (35, .aload_n 0, 1, 36), (36, .getfield 17, 3, 39), (39, .putfield 17, 3, 42), (42, .aload_n 3, 1, 43), (43, .areturn, 1, 44)] := by unfold dtab; decide +kernel
theorem okX2_copy : okY yX2_copy 2 := by decide +kernel
set_option maxHeartbeats 4000000 in
theorem c_Ccopy (l : Launch) (D : va_G) (h : PH) {c : Nat} {w0 o0 : Option Nat} {u : Int64} {n t : Int32} (r1 r2 : Option Nat) (hc : h c = some (eo 4 [va_rf w0, va_rf o0, .long u, .int n, .int t]))  : Ct l D yX2_copy cX2_copy 4 (some (.object "LeadRaces$Race")) (rmC 2 40 1 5) [.ref c, va_rf r1, va_rf r2] h (fun v h2 => ∃ q, h q = none ∧ v = some (.ref q) ∧ h2 = pu h q (eo 4 [va_rf r1, va_rf r2, .long u, .int n, .int t])) := by
  refine Ct.of (by decide) (by cases r1 <;> cases r2 <;> rfl) (fun Γ X rr hmn => ?_)
  have X : Cx l D cX2_copy RX2 4 (rmC 2 40 1 5) Γ := X
  rw [show lv_args 0 [.ref c, va_rf r1, va_rf r2] = [(0, .ref c), (1, va_rf r1), (2, va_rf r2)] from (by cases r1 <;> cases r2 <;> rfl)]
  show J Γ h 0 0 0 [(0, .ref c), (1, va_rf r1), (2, va_rf r2)] []
  refine n_X2_12 X (dt tX2_copy 0 rfl) (Nat.le_of_ble_eq_true rfl) (Nat.le_of_ble_eq_true rfl) (fun q1 fq1 => ?_)
  refine J_dup X (dt tX2_copy 1 rfl) rfl ?_
  refine J_callI (rest := [.ref q1]) X (dt tX2_copy 2 rfl) (c_Cinit l D _ (pu_s _ _ _)) (lw_meth q211) q76 q1021 q210 rfl okX2_init rfl ⟨Nat.le_of_ble_eq_true rfl, Nat.le_of_ble_eq_true rfl⟩ rfl (Nat.le_of_ble_eq_true rfl) (Nat.le_of_ble_eq_true rfl) (Nat.le_of_ble_eq_true rfl) (fun v9 h9 hp9 => ?_)
  obtain ⟨rfl, e9⟩ := hp9
  rw [e9]
  refine J_heap (h2 := pu h q1 (eo 4 [.null, .null, .long (9223372036854775807), .int (nI 0), .int (-1)])) (pu_pu _ _ _ _) ?_
  show J Γ (pu h q1 (eo 4 [.null, .null, .long (9223372036854775807), .int (nI 0), .int (-1)])) 1 5 7 [(0, .ref c), (1, va_rf r1), (2, va_rf r2)] [.ref q1]
  refine J_astore_n X (lv2 := [(3, .ref q1), (0, .ref c), (1, va_rf r1), (2, va_rf r2)]) (dt tX2_copy 3 rfl) (by cases r2 <;> rfl) rfl rfl ?_
  refine J_aload_n X (dt tX2_copy 4 rfl) 0 rfl ?_
  refine J_aload_nq X (dt tX2_copy 5 rfl) 2 rfl ?_
  refine p_X2_21_4 X (fs2 := [va_rf r1, .null, .long (9223372036854775807), .int (nI 0), .int (-1)]) (dt tX2_copy 6 rfl) (pu_s _ _ _) (nar_q _) (fit_q _) rfl rfl ?_
  refine J_heap (h2 := pu h q1 (eo 4 [va_rf r1, .null, .long (9223372036854775807), .int (nI 0), .int (-1)])) (pu_pu _ _ _ _) ?_
  refine J_aload_n X (dt tX2_copy 7 rfl) 0 rfl ?_
  refine J_aload_nq X (dt tX2_copy 8 rfl) 3 rfl ?_
  refine p_X2_31_4 X (fs2 := [va_rf r1, va_rf r2, .long (9223372036854775807), .int (nI 0), .int (-1)]) (dt tX2_copy 9 rfl) (pu_s _ _ _) (nar_q _) (fit_q _) rfl rfl ?_
  refine J_heap (h2 := pu h q1 (eo 4 [va_rf r1, va_rf r2, .long (9223372036854775807), .int (nI 0), .int (-1)])) (pu_pu _ _ _ _) ?_
  refine J_aload_n X (dt tX2_copy 10 rfl) 0 rfl ?_
  refine J_aload_n X (dt tX2_copy 11 rfl) 1 rfl ?_
  refine g_X2_11_4 X (dt tX2_copy 12 rfl) (pu_o (ne_f hc fq1) hc) rfl ?_
  refine p_X2_11_4 X (fs2 := [va_rf r1, va_rf r2, .long u, .int (nI 0), .int (-1)]) (dt tX2_copy 13 rfl) (pu_s _ _ _) rfl rfl rfl rfl ?_
  refine J_heap (h2 := pu h q1 (eo 4 [va_rf r1, va_rf r2, .long u, .int (nI 0), .int (-1)])) (pu_pu _ _ _ _) ?_
  refine J_aload_n X (dt tX2_copy 14 rfl) 0 rfl ?_
  refine J_aload_n X (dt tX2_copy 15 rfl) 1 rfl ?_
  refine g_X2_38_4 X (dt tX2_copy 16 rfl) (pu_o (ne_f hc fq1) hc) rfl ?_
  refine p_X2_38_4 X (fs2 := [va_rf r1, va_rf r2, .long u, .int n, .int (-1)]) (dt tX2_copy 17 rfl) (pu_s _ _ _) rfl rfl rfl rfl ?_
  refine J_heap (h2 := pu h q1 (eo 4 [va_rf r1, va_rf r2, .long u, .int n, .int (-1)])) (pu_pu _ _ _ _) ?_
  refine J_aload_n X (dt tX2_copy 18 rfl) 0 rfl ?_
  refine J_aload_n X (dt tX2_copy 19 rfl) 1 rfl ?_
  refine g_X2_17_4 X (dt tX2_copy 20 rfl) (pu_o (ne_f hc fq1) hc) rfl ?_
  refine p_X2_17_4 X (fs2 := [va_rf r1, va_rf r2, .long u, .int n, .int t]) (dt tX2_copy 21 rfl) (pu_s _ _ _) rfl rfl rfl rfl ?_
  refine J_heap (h2 := pu h q1 (eo 4 [va_rf r1, va_rf r2, .long u, .int n, .int t])) (pu_pu _ _ _ _) ?_
  refine J_aload_n X (dt tX2_copy 22 rfl) 0 rfl ?_
  exact J_aret X rr (dt tX2_copy 23 rfl) (Nat.le_of_ble_eq_true rfl) (Nat.le_of_ble_eq_true rfl) (Or.inl ⟨_, rfl⟩) (Or.inr ⟨_, rfl⟩) ⟨_, fq1, rfl, rfl⟩
