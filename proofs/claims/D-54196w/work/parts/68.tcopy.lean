/-! printed by gen/compw.py -/
set_option maxRecDepth 100000
theorem q121 : (Jvm.Cond.instantiable "LeadRaces$Track" (5 : Nat)) ∈ lw_all := lw_g (lw_at lw_m1 53 rfl) rfl
theorem q123 : (Jvm.Cond.instanceMethod ({ cls := "LeadRaces$Track", name := "<init>", desc := "()V" } : Jvm.MethodName)) ∈ lw_all := lw_g (lw_at lw_m1 55 rfl) rfl
theorem q124 : (Jvm.Cond.code ({ cls := "LeadRaces$Track", name := "<init>", desc := "()V" } : Jvm.MethodName) prog_10_method_1_code (1 : Nat) (Option.none : Option Jvm.ClassFile.FieldType)) ∈ lw_all := lw_g (lw_at lw_m1 56 rfl) rfl
theorem q218 : (Jvm.Cond.fieldLinkNest "LeadRaces$Track" (69 : Nat) "LeadRaces$Race" "other" "LLeadRaces$Racing;" "LeadRaces") ∈ lw_tbl := lw_at lw_m1 150 rfl
theorem q682 : (Jvm.Cond.classLink "LeadRaces$Track" (12 : Nat) "LeadRaces$Track") ∈ lw_all := lw_g (lw_at lw_m3 134 rfl) rfl
theorem q683 : (Jvm.Cond.methodLink "LeadRaces$Track" (42 : Nat) ({ cls := "LeadRaces$Track", name := "<init>", desc := "()V" } : Jvm.MethodName)) ∈ lw_all := lw_g (lw_at lw_m3 135 rfl) rfl
theorem q684 : (Jvm.Cond.methodLink "LeadRaces$Track" (43 : Nat) ({ cls := "LeadRaces$Runner", name := "copy", desc := "()LLeadRaces$Runner;" } : Jvm.MethodName)) ∈ lw_all := lw_g (lw_at lw_m3 136 rfl) rfl
theorem q685 : (Jvm.Cond.instanceMethod ({ cls := "LeadRaces$Runner", name := "copy", desc := "()LLeadRaces$Runner;" } : Jvm.MethodName)) ∈ lw_all := lw_g (lw_at lw_m3 137 rfl) rfl
theorem q686 : (Jvm.Cond.selects "LeadRaces$Runner" ({ cls := "LeadRaces$Runner", name := "copy", desc := "()LLeadRaces$Runner;" } : Jvm.MethodName) ({ cls := "LeadRaces$Runner", name := "copy", desc := "()LLeadRaces$Runner;" } : Jvm.MethodName)) ∈ lw_all := lw_g (lw_at lw_m3 138 rfl) rfl
theorem q687 : (Jvm.Cond.code ({ cls := "LeadRaces$Runner", name := "copy", desc := "()LLeadRaces$Runner;" } : Jvm.MethodName) prog_9_method_2_code (2 : Nat) (Option.some (Jvm.ClassFile.FieldType.object "LeadRaces$Runner"))) ∈ lw_all := lw_g (lw_at lw_m3 139 rfl) rfl
theorem q689 : (Jvm.Cond.methodLink "LeadRaces$Track" (47 : Nat) ({ cls := "java/util/ArrayList", name := "iterator", desc := "()Ljava/util/Iterator;" } : Jvm.MethodName)) ∈ lw_all := lw_g (lw_at lw_m3 141 rfl) rfl
theorem q690 : (Jvm.Cond.instanceMethod ({ cls := "java/util/ArrayList", name := "iterator", desc := "()Ljava/util/Iterator;" } : Jvm.MethodName)) ∈ lw_all := lw_g (lw_at lw_m3 142 rfl) rfl
theorem q691 : (Jvm.Cond.selects "java/util/ArrayList" ({ cls := "java/util/ArrayList", name := "iterator", desc := "()Ljava/util/Iterator;" } : Jvm.MethodName) ({ cls := "java/util/ArrayList", name := "iterator", desc := "()Ljava/util/Iterator;" } : Jvm.MethodName)) ∈ lw_all := lw_g (lw_at lw_m3 143 rfl) rfl
theorem q692 : (Jvm.Cond.code ({ cls := "java/util/ArrayList", name := "iterator", desc := "()Ljava/util/Iterator;" } : Jvm.MethodName) prog_44_method_55_code (1 : Nat) (Option.some (Jvm.ClassFile.FieldType.object "java/util/Iterator"))) ∈ lw_all := lw_g (lw_at lw_m3 144 rfl) rfl
theorem q715 : (Jvm.Cond.methodLink "LeadRaces$Track" (51 : Nat) ({ cls := "java/util/Iterator", name := "hasNext", desc := "()Z" } : Jvm.MethodName)) ∈ lw_all := lw_g (lw_at lw_m3 167 rfl) rfl
theorem q729 : (Jvm.Cond.selects "java/util/ArrayList$Itr" ({ cls := "java/util/Iterator", name := "hasNext", desc := "()Z" } : Jvm.MethodName) ({ cls := "java/util/ArrayList$Itr", name := "hasNext", desc := "()Z" } : Jvm.MethodName)) ∈ lw_all := lw_g (lw_at lw_m3 181 rfl) rfl
theorem q731 : (Jvm.Cond.instanceMethod ({ cls := "java/util/ArrayList$Itr", name := "hasNext", desc := "()Z" } : Jvm.MethodName)) ∈ lw_all := lw_g (lw_at lw_m3 183 rfl) rfl
theorem q733 : (Jvm.Cond.code ({ cls := "java/util/ArrayList$Itr", name := "hasNext", desc := "()Z" } : Jvm.MethodName) prog_45_method_2_code (1 : Nat) (Option.some Jvm.ClassFile.FieldType.boolean)) ∈ lw_all := lw_g (lw_at lw_m3 185 rfl) rfl
theorem q738 : (Jvm.Cond.selects "java/util/LinkedList$ListItr" ({ cls := "java/util/Iterator", name := "hasNext", desc := "()Z" } : Jvm.MethodName) ({ cls := "java/util/LinkedList$ListItr", name := "hasNext", desc := "()Z" } : Jvm.MethodName)) ∈ lw_all := lw_g (lw_at lw_m3 190 rfl) rfl
theorem q744 : (Jvm.Cond.methodLink "LeadRaces$Track" (57 : Nat) ({ cls := "java/util/Iterator", name := "next", desc := "()Ljava/lang/Object;" } : Jvm.MethodName)) ∈ lw_all := lw_g (lw_at lw_m3 196 rfl) rfl
theorem q989 : (Jvm.Cond.selects "java/util/ArrayList$Itr" ({ cls := "java/util/Iterator", name := "next", desc := "()Ljava/lang/Object;" } : Jvm.MethodName) ({ cls := "java/util/ArrayList$Itr", name := "next", desc := "()Ljava/lang/Object;" } : Jvm.MethodName)) ∈ lw_all := lw_g (lw_at lw_m4 201 rfl) rfl
theorem q991 : (Jvm.Cond.instanceMethod ({ cls := "java/util/ArrayList$Itr", name := "next", desc := "()Ljava/lang/Object;" } : Jvm.MethodName)) ∈ lw_all := lw_g (lw_at lw_m4 203 rfl) rfl
theorem q993 : (Jvm.Cond.code ({ cls := "java/util/ArrayList$Itr", name := "next", desc := "()Ljava/lang/Object;" } : Jvm.MethodName) prog_45_method_3_code (3 : Nat) (Option.some (Jvm.ClassFile.FieldType.object "java/lang/Object"))) ∈ lw_all := lw_g (lw_at lw_m4 205 rfl) rfl
theorem q1002 : (Jvm.Cond.selects "java/util/LinkedList$ListItr" ({ cls := "java/util/Iterator", name := "next", desc := "()Ljava/lang/Object;" } : Jvm.MethodName) ({ cls := "java/util/LinkedList$ListItr", name := "next", desc := "()Ljava/lang/Object;" } : Jvm.MethodName)) ∈ lw_all := lw_g (lw_at lw_m4 214 rfl) rfl
theorem q1004 : (Jvm.Cond.instanceMethod ({ cls := "java/util/LinkedList$ListItr", name := "next", desc := "()Ljava/lang/Object;" } : Jvm.MethodName)) ∈ lw_all := lw_g (lw_at lw_m4 216 rfl) rfl
theorem q1006 : (Jvm.Cond.code ({ cls := "java/util/LinkedList$ListItr", name := "next", desc := "()Ljava/lang/Object;" } : Jvm.MethodName) prog_53_method_3_code (1 : Nat) (Option.some (Jvm.ClassFile.FieldType.object "java/lang/Object"))) ∈ lw_all := lw_g (lw_at lw_m4 218 rfl) rfl
theorem q1012 : (Jvm.Cond.methodLink "LeadRaces$Track" (65 : Nat) ({ cls := "LeadRaces$Track", name := "mine", desc := "(LLeadRaces$Runner;)LLeadRaces$Runner;" } : Jvm.MethodName)) ∈ lw_all := lw_g (lw_at lw_m4 224 rfl) rfl
theorem q1014 : (Jvm.Cond.instanceMethod ({ cls := "LeadRaces$Track", name := "mine", desc := "(LLeadRaces$Runner;)LLeadRaces$Runner;" } : Jvm.MethodName)) ∈ lw_all := lw_g (lw_at lw_m4 226 rfl) rfl
theorem q1015 : (Jvm.Cond.code ({ cls := "LeadRaces$Track", name := "mine", desc := "(LLeadRaces$Runner;)LLeadRaces$Runner;" } : Jvm.MethodName) prog_10_method_3_code (2 : Nat) (Option.some (Jvm.ClassFile.FieldType.object "LeadRaces$Runner"))) ∈ lw_all := lw_g (lw_at lw_m4 227 rfl) rfl
theorem q1016 : (Jvm.Cond.methodLink "LeadRaces$Track" (72 : Nat) ({ cls := "LeadRaces$Race", name := "copy", desc := "(LLeadRaces$Racing;LLeadRaces$Racing;)LLeadRaces$Race;" } : Jvm.MethodName)) ∈ lw_all := lw_g (lw_at lw_m4 228 rfl) rfl
theorem q1017 : (Jvm.Cond.instanceMethod ({ cls := "LeadRaces$Race", name := "copy", desc := "(LLeadRaces$Racing;LLeadRaces$Racing;)LLeadRaces$Race;" } : Jvm.MethodName)) ∈ lw_all := lw_g (lw_at lw_m4 229 rfl) rfl
theorem q1018 : (Jvm.Cond.selects "LeadRaces$Race" ({ cls := "LeadRaces$Race", name := "copy", desc := "(LLeadRaces$Racing;LLeadRaces$Racing;)LLeadRaces$Race;" } : Jvm.MethodName) ({ cls := "LeadRaces$Race", name := "copy", desc := "(LLeadRaces$Racing;LLeadRaces$Racing;)LLeadRaces$Race;" } : Jvm.MethodName)) ∈ lw_all := lw_g (lw_at lw_m4 230 rfl) rfl
theorem q1019 : (Jvm.Cond.code ({ cls := "LeadRaces$Race", name := "copy", desc := "(LLeadRaces$Racing;LLeadRaces$Racing;)LLeadRaces$Race;" } : Jvm.MethodName) prog_5_method_4_code (4 : Nat) (Option.some (Jvm.ClassFile.FieldType.object "LeadRaces$Race"))) ∈ lw_all := lw_g (lw_at lw_m4 231 rfl) rfl
theorem q1022 : (Jvm.Cond.methodLink "LeadRaces$Track" (75 : Nat) ({ cls := "java/util/LinkedList", name := "iterator", desc := "()Ljava/util/Iterator;" } : Jvm.MethodName)) ∈ lw_all := lw_g (lw_at lw_m4 234 rfl) rfl
theorem q1023 : (Jvm.Cond.sameMethod "java/util/LinkedList" "java/util/AbstractSequentialList" "iterator" "()Ljava/util/Iterator;") ∈ lw_all := lw_g (lw_at lw_m4 235 rfl) rfl
theorem q1025 : (Jvm.Cond.selects "java/util/LinkedList" ({ cls := "java/util/LinkedList", name := "iterator", desc := "()Ljava/util/Iterator;" } : Jvm.MethodName) ({ cls := "java/util/AbstractSequentialList", name := "iterator", desc := "()Ljava/util/Iterator;" } : Jvm.MethodName)) ∈ lw_all := lw_g (lw_at lw_m4 237 rfl) rfl
theorem q1026 : (Jvm.Cond.instanceMethod ({ cls := "java/util/AbstractSequentialList", name := "iterator", desc := "()Ljava/util/Iterator;" } : Jvm.MethodName)) ∈ lw_all := lw_g (lw_at lw_m4 238 rfl) rfl
theorem q1027 : (Jvm.Cond.code ({ cls := "java/util/AbstractSequentialList", name := "iterator", desc := "()Ljava/util/Iterator;" } : Jvm.MethodName) prog_42_method_7_code (1 : Nat) (Option.some (Jvm.ClassFile.FieldType.object "java/util/Iterator"))) ∈ lw_all := lw_g (lw_at lw_m4 239 rfl) rfl
theorem q1093 : (Jvm.Cond.methodLink "LeadRaces$Track" (78 : Nat) ({ cls := "java/util/LinkedList", name := "addLast", desc := "(Ljava/lang/Object;)V" } : Jvm.MethodName)) ∈ lw_all := lw_g (lw_at lw_m5 65 rfl) rfl
theorem q1094 : (Jvm.Cond.instanceMethod ({ cls := "java/util/LinkedList", name := "addLast", desc := "(Ljava/lang/Object;)V" } : Jvm.MethodName)) ∈ lw_all := lw_g (lw_at lw_m5 66 rfl) rfl
theorem q1095 : (Jvm.Cond.selects "java/util/LinkedList" ({ cls := "java/util/LinkedList", name := "addLast", desc := "(Ljava/lang/Object;)V" } : Jvm.MethodName) ({ cls := "java/util/LinkedList", name := "addLast", desc := "(Ljava/lang/Object;)V" } : Jvm.MethodName)) ∈ lw_all := lw_g (lw_at lw_m5 67 rfl) rfl
theorem q1096 : (Jvm.Cond.code ({ cls := "java/util/LinkedList", name := "addLast", desc := "(Ljava/lang/Object;)V" } : Jvm.MethodName) prog_52_method_14_code (2 : Nat) (Option.none : Option Jvm.ClassFile.FieldType)) ∈ lw_all := lw_g (lw_at lw_m5 68 rfl) rfl
section
variable {l : Launch} {D : va_G} {cc : ByteArray} {nL : Nat} {rm : Room} {Γ : Cxt} {h : PH} {k n pc nx : Nat} {lv : List (Nat × Value)} {st : List Value}
theorem n_X1_12 (X : Cx l D cc RX1 nL rm Γ) (d : At cc pc (.new 12) 3 nx) (hk : k + 1 ≤ rm.cells) (hn : n + 5 ≤ rm.slots) (kk : ∀ q, h q = none → J Γ (pu h q (eo 1 [.null, .null, .null, .int (nI 0), .int (nI 0)])) (k + 1) (n + 5) nx lv (.ref q :: st)) : J Γ h k n pc lv st := J_new X (tf := tyX1) d (show vwCl[1]? = some (RX1, TX1, 5) from rfl) in_X1 tyX1_ok q682 q121 q70 (by decide) hk hn kk
theorem g_X1_69_4 (X : Cx l D cc RX1 nL rm Γ) {a : Nat} {fs : List Value} {v : Value} (d : At cc pc (.getfield 69) 3 nx) (ha : h a = some (eo 4 fs)) (hv : fs[1]? = some v) (kk : J Γ h k n nx lv (v :: st)) : J Γ h k n pc lv (.ref a :: st) := J_getN X (kf := 1) d ha (show vwCl[4]? = some (RX2, TX2, 5) from rfl) in_X2 rfl q218 rfl hv kk
end
theorem cp_k {h : PH} {it it2 nd2 : Nat → Nat} {i q : Nat} (c : ∀ k, k < i → it2 k = it k ∧ h (nd2 k) = none) (hq : h q = none) : ∀ k, k < i + 1 → upN it2 i (it i) k = it k ∧ h (upN nd2 i q k) = none := by
  intro k hk
  by_cases hki : k = i
  · subst hki
    rw [upN_s, upN_s]
    exact ⟨rfl, hq⟩
  · rw [upN_n hki, upN_n hki]
    exact c k (by omega)
theorem kStay_L {k : Nat} (h : kStay k = true) : kNoL k = true := by
  unfold kStay at h
  simp only [Bool.or_eq_true, beq_iff_eq] at h
  rcases h with ((rfl | rfl) | rfl) | rfl <;> rfl
abbrev cX1_copy : ByteArray := prog_10_method_4_code
def yX1_copy : MethodName := ⟨RX1, "copy", "()LLeadRaces$Track;"⟩
theorem tX1_copy : dtab cX1_copy [(0, .new 12, 3, 3), (3, .dup, 1, 4), (4, .invokespecial 42, 3, 7), (7, .astore_n 1, 1, 8), (8, .iconst 0, 1, 9), (9, .istore_n 2, 1, 10), (10, .iload_n 2, 1, 11), (11, .bipush 8, 2, 13), (13, .if_icmp .ge 37, 3, 16), (16, .aload_n 1, 1, 17), (17, .getfield 11, 3, 20), (20, .iload_n 2, 1, 21), (21, .aload_n 0, 1, 22), (22, .getfield 11, 3, 25), (25, .iload_n 2, 1, 26), (26, .aaload, 1, 27), (27, .ifnonnull 7, 3, 30), (30, .aconst_null, 1, 31), (31, .goto 12, 3, 34), (34, .aload_n 0, 1, 35), (35, .getfield 11, 3, 38), (38, .iload_n 2, 1, 39), (39, .aaload, 1, 40), (40, .invokevirtual 43, 3, 43), (43, .aastore, 1, 44), (44, .iinc 2 1, 3, 47), (47, .goto (-37), 3, 50), (50, .aload_n 0, 1, 51), (51, .getfield 20, 3, 54), (54, .invokevirtual 47, 3, 57), (57, .astore_n 2, 1, 58), (58, .aload_n 2, 1, 59), (59, .invokeinterface 51 1, 5, 64), (64, .ifCond .eq 50, 3, 67), (67, .aload_n 2, 1, 68), (68, .invokeinterface 57 1, 5, 73), (73, .checkcast 31, 3, 76), (76, .astore_n 3, 1, 77), (77, .aload_n 1, 1, 78), (78, .getfield 20, 3, 81), (81, .aload_n 3, 1, 82), (82, .aload_n 1, 1, 83), (83, .aload_n 3, 1, 84), (84, .getfield 61, 3, 87), (87, .checkcast 9, 3, 90), (90, .invokevirtual 65, 3, 93), (93, .aload_n 1, 1, 94), (94, .aload_n 3, 1, 95), (95, .getfield 69, 3, 98), (98, .checkcast 9, 3, 101), (101, .invokevirtual 65, 3, 104), (104, .invokevirtual 72, 3, 107), (107, .invokevirtual 34, 3, 110), (110, .pop, 1, 111), (111, .goto (-53), 3, 114), (114, .aload_n 0, 1, 115), (115, .getfield 27, 3, 118), (118, .invokevirtual 75, 3, 121), (121, .astore_n 2, 1, 122), (122, .aload_n 2, 1, 123), (123, .invokeinterface 51 1, 5, 128), (128, .ifCond .eq 24, 3, 131), (131, .aload_n 2, 1, 132), (132, .invokeinterface 57 1, 5, 137), (137, .checkcast 76, 3, 140), (140, .astore_n 3, 1, 141), (141, .aload_n 1, 1, 142), (142, .getfield 27, 3, 145), (145, .aload_n 3, 1, 146), (146, .invokevirtual 78, 3, 149), (149, .goto (-27), 3, 152), (152, .aload_n 1, 1, 153), (153, .aload_n 0, 1, 154), (154, .getfield 82, 3, 157), (157, .putfield 82, 3, 160), (160, .aload_n 1, 1, 161), (161, .aload_n 0, 1, 162), (162, .getfield 85, 3, 165), (165, .putfield 85, 3, 168), (168, .aload_n 1, 1, 169), (169, .areturn, 1, 170)] := by unfold dtab; decide +kernel
theorem okX1_copy : okY yX1_copy 0 := by decide +kernel
set_option maxHeartbeats 4000000 in
theorem c_Tcopy (l : Launch) (D : va_G) (h : PH) {b : PH} {t : Nat} {T rc : Nat → Nat} {ru : Nat → Option Nat} {a : Nat → Int32}  (H : TK b h t T rc ru Al a) : Ct l D yX1_copy cX1_copy 4 (some (.object "LeadRaces$Track")) (rmC 6 120 36 190) [.ref t] h (fun v h9 => ∃ t2, v = some (.ref t2) ∧ h t2 = none ∧ TQ h h9 t2 a) := by
  refine Ct.of (by decide) rfl (fun Γ X rr hmn => ?_)
  have X : Cx l D cX1_copy RX1 4 (rmC 6 120 36 190) Γ := X
  show J Γ h 0 0 0 [(0, .ref t)] []
  obtain ⟨wn, ot, un, hc, ⟨md, n, nd, it, hl, hn8, h84, hit, bd, bn⟩, hp⟩ := H
  refine n_X1_12 X (dt tX1_copy 0 rfl) (by show 0 + 1 ≤ 36; omega) (by show 0 + 5 ≤ 190; omega) (fun q1 fq1 => ?_)
  refine J_dup X (dt tX1_copy 1 rfl) rfl ?_
  refine J_callI (rest := [.ref q1]) X (dt tX1_copy 2 rfl) (c_Tinit l D _ (t := q1) (pu_s _ _ _)) (lw_meth q124) q70 q683 q123 rfl okX1_init rfl ⟨Nat.le_of_ble_eq_true rfl, Nat.le_of_ble_eq_true rfl⟩ rfl (Nat.le_of_ble_eq_true rfl) (by show 1 + 3 ≤ 36; omega) (by show 5 + 15 ≤ 190; omega) (fun v9 h9 hp9 => ?_)
  obtain ⟨q2, q3, q4, fq2, fq3, fq4, nq2q3, nq2q4, nq3q4, rfl, e9⟩ := hp9
  rw [e9]
  refine J_heap (h2 := pu (pu (pu (pu h q2 (eR 8 (fun _ => none))) q3 (eo 2 [.int (nI 0), .ref (k0 D), .int (nI 0)])) q4 (eo 3 [.int (nI 0), .int (nI 0), .null, .null])) q1 (eo 1 [.ref q2, .ref q3, .ref q4, .int (nI 0), .int (nI 0)])) (pu_dr3 (ne_f (pu_s _ _ _) fq2) (ne_f (pu_s _ _ _) fq3) (ne_f (pu_s _ _ _) fq4)) ?_
  show J Γ (pu (pu (pu (pu h q2 (eR 8 (fun _ => none))) q3 (eo 2 [.int (nI 0), .ref (k0 D), .int (nI 0)])) q4 (eo 3 [.int (nI 0), .int (nI 0), .null, .null])) q1 (eo 1 [.ref q2, .ref q3, .ref q4, .int (nI 0), .int (nI 0)])) 4 20 7 [(0, .ref t)] [.ref q1]
  refine J_astore_n X (lv2 := [(1, .ref q1), (0, .ref t)]) (dt tX1_copy 3 rfl) rfl rfl rfl ?_
  refine J_iconst X (nI 0) (dt tX1_copy 4 rfl) (by decide) ?_
  refine J_istore_n X (lv2 := [(2, .int (nI 0)), (1, .ref q1), (0, .ref t)]) (dt tX1_copy 5 rfl) rfl rfl rfl ?_
  have b1 : h q1 = none := fq1
  have b2 : h q2 = none := (pu_none fq2).2
  have b3 : h q3 = none := (pu_none fq3).2
  have b4 : h q4 = none := (pu_none fq4).2
  refine J_sub [2, 1, 0] rfl ?_
  refine up_to 8 (P := fun i6 => ∀ g5 : PH, ∀ r2 : Nat → Option Nat, (g5 q1 = some (eo 1 [.ref q2, .ref q3, .ref q4, .int (nI 0), .int (nI 0)])) → (g5 q2 = some (eR 8 r2)) → (g5 q3 = some (eo 2 [.int (nI 0), .ref (k0 D), .int (nI 0)])) → (g5 q4 = some (eo 3 [.int (nI 0), .int (nI 0), .null, .null])) → (Ext h g5) → (Cl h g5 ru r2 i6 a) → J Γ g5 (4 + i6) (20 + 4 * i6) 10 [(0, .ref t), (1, .ref q1), (2, .int (nI i6))] []) ?_ ?_ (pu (pu (pu (pu h q2 (eR 8 (fun _ => none))) q3 (eo 2 [.int (nI 0), .ref (k0 D), .int (nI 0)])) q4 (eo 3 [.int (nI 0), .int (nI 0), .null, .null])) q1 (eo 1 [.ref q2, .ref q3, .ref q4, .int (nI 0), .int (nI 0)])) (fun _ => none) (pu_s _ _ _) (pu_o (Ne.symm (ne_f (pu_s _ _ _) fq2)) (pu_o nq2q4 (pu_o nq2q3 (pu_s _ _ _)))) (pu_o (Ne.symm (ne_f (pu_s _ _ _) fq3)) (pu_o nq3q4 (pu_s _ _ _))) (pu_o (Ne.symm (ne_f (pu_s _ _ _) fq4)) (pu_s _ _ _)) ((((Ext.rf.put b2).put b3).put b4).put b1) Cl.zero
  · intro g5 r2 k1 k2 k3 k4 k5 k6
    show J Γ g5 (4 + 8) (20 + 4 * 8) 10 [(0, .ref t), (1, .ref q1), (2, .int (nI 8))] []
    refine J_widen (k2 := 12) (n2 := 52) (by omega) (by omega) ?_
    have hcg := hc.new k5
    refine J_iload_n X (dt tX1_copy 6 rfl) 2 rfl ?_
    refine J_bipush X (nI 8) (dt tX1_copy 7 rfl) (by decide) ?_
    refine J_icmp_ge X 50 (dt tX1_copy 8 rfl) (by decide) (fun _ => ?_) (fun c9 => absurd (by decide) c9)
    refine J_aload_n X (dt tX1_copy 27 rfl) 0 rfl ?_
    refine g_X1_20_1 X (dt tX1_copy 28 rfl) hcg.ct rfl ?_
    refine J_callVR (rest := []) X (T := TJ2) (dt tX1_copy 29 rfl) (c_LAiter l D _ (M := 0) (f := fun _ => none) hcg.rl) (lw_V q689 q690 q691 q73 q692) okJ2_iterator rfl (Or.inl hcg.rl) rfl ⟨Nat.le_of_ble_eq_true rfl, Nat.le_of_ble_eq_true rfl⟩ rfl (Nat.le_of_ble_eq_true rfl) (by show 12 + 1 ≤ 36; omega) (by show 52 + 4 ≤ 190; omega) (fun v9 h9 hp9 => ?_)
    obtain ⟨q7, fq7, rfl, rfl⟩ := hp9
    show J Γ (pu g5 q7 (eo 13 [.int (nI 0), .int (-1), .int (nI 7), .ref (T 1)])) 13 56 57 [(0, .ref t), (1, .ref q1), (2, .int (nI 8))] [.ref q7]
    refine J_astore_n X (lv2 := [(2, .ref q7), (0, .ref t), (1, .ref q1)]) (dt tX1_copy 30 rfl) rfl rfl rfl ?_
    have b5 : h q7 = none := k5.no fq7
    refine J_sub [1, 2, 0] rfl ?_
    refine up_to 7 (P := fun i9 => ∀ g8 : PH, ∀ (lr : Int32) (ea : Nat) (rc2 : Nat → Nat), (g8 q7 = some (eo 13 [.int (nI i9), .int lr, .int (nI 7), .ref (T 1)])) → (Rl D h g8 q3 i9 ea rc2 (fun i => rrn r2 (a (33 + i))) (fun i => rrn r2 (a (40 + i))) un (fun i => a (54 + i)) (fun i => a (61 + i))) → (Kp kStay g5 g8) → J Γ g8 (13 + 2 * i9) (56 + 15 * i9) 58 [(0, .ref t), (1, .ref q1), (2, .ref q7)] []) ?_ ?_ (pu g5 q7 (eo 13 [.int (nI 0), .int (-1), .int (nI 7), .ref (T 1)])) (-1) 0 (fun _ => 0) (pu_s _ _ _) (Rl.zero (pu_o (ne_f k3 fq7) k3) b3 (k5.trans (Ext.new fq7))) (Kp.ext (Ext.new fq7))
    · intro g8 lr ea rc2 k7 k8 k9
      show J Γ g8 (13 + 2 * 7) (56 + 15 * 7) 58 [(0, .ref t), (1, .ref q1), (2, .ref q7)] []
      refine J_widen (k2 := 27) (n2 := 161) (by omega) (by omega) ?_
      have hcg := hc.new k8.ext
      have KC := Tc.made (z4 := q4) hp (k9 _ _ k1 rfl) (k9 _ _ k2 rfl) (k6.keep (fun q9 e9 y9 w9 => k9 q9 e9 y9 (by rw [kStay, show (kd e9 == 10) = true from w9, Bool.or_true]))) k8 b1 b2
      refine J_aload_n X (dt tX1_copy 31 rfl) 2 rfl ?_
      refine J_callF (na := 0) (rest := []) X (T := TJ21) (C := RJ21) (x := ⟨"java/util/Iterator", "hasNext", "()Z"⟩) (dt tX1_copy 32 rfl) (c_IThas l D _ k7 hcg.rl) (lw_F q715 q729 q731 q98 q733) (List.mem_of_getElem? (i := 2) rfl) (by decide) rfl (Or.inl k7) rfl ⟨Nat.le_of_ble_eq_true rfl, Nat.le_of_ble_eq_true rfl⟩ rfl (Nat.le_of_ble_eq_true rfl) (by show 27 + 0 ≤ 36; omega) (by show 161 + 0 ≤ 190; omega) (fun v9 h9 hp9 => ?_)
      obtain ⟨rfl, e9⟩ := hp9
      rw [e9]
      show J Γ g8 27 161 64 [(0, .ref t), (1, .ref q1), (2, .ref q7)] [.int (if nI 7 = nI 7 then nI 0 else nI 1)]
      refine J_topi (if_pos rfl) ?_
      refine J_if_eq X 114 (dt tX1_copy 33 rfl) (by decide) (fun _ => ?_) (fun c9 => absurd (by decide) c9)
      refine J_aload_n X (dt tX1_copy 55 rfl) 0 rfl ?_
      refine g_X1_27_1 X (dt tX1_copy 56 rfl) hcg.ct rfl ?_
      refine J_callU (na := 0) (rest := []) X (T := TJ4) (C := RJ4) (x := ⟨"java/util/LinkedList", "iterator", "()Ljava/util/Iterator;"⟩) (owner := "java/util/AbstractSequentialList") (dt tX1_copy 57 rfl) (c_LIiter l D _ (LLf.kept hl (Kp.ext k8.ext)) (by omega)) (lw_U q1022 q1023 q1025 q1026 q74 q1027) rfl (by decide) rfl (Or.inl (LLf.kept hl (Kp.ext k8.ext)).1) rfl ⟨Nat.le_of_ble_eq_true rfl, Nat.le_of_ble_eq_true rfl⟩ rfl (Nat.le_of_ble_eq_true rfl) (by show 27 + 1 ≤ 36; omega) (by show 161 + 5 ≤ 190; omega) (fun v9 h9 hp9 => ?_)
      obtain ⟨q10, fq10, rfl, rfl⟩ := hp9
      show J Γ (pu g8 q10 (eo 14 [.null, va_rf (licur n nd 0), .int (nI 0), .int md, .ref (T 3)])) 28 166 121 [(0, .ref t), (1, .ref q1), (2, .ref q7)] [.ref q10]
      refine J_astore_n X (lv2 := [(2, .ref q10), (0, .ref t), (1, .ref q1)]) (dt tX1_copy 58 rfl) rfl rfl rfl ?_
      have b6 : h q10 = none := k8.ext.no fq10
      refine J_sub [1, 2, 0] rfl ?_
      refine up_to n (P := fun i12 => ∀ g11 : PH, ∀ (lo9 : Option Nat) (nd2 it2 : Nat → Nat), (Tc h g11 q1 (T4 q2 q3 ea q4) rc2 r2 (fun i => rrn r2 (a (33 + i))) (fun i => rrn r2 (a (40 + i))) un (az a)) → (LLf g11 q4 (nI i12) i12 nd2 it2) → (∀ k, k < i12 → it2 k = it k ∧ h (nd2 k) = none) → (g11 q10 = some (eo 14 [va_rf lo9, va_rf (licur n nd i12), .int (nI i12), .int md, .ref (T 3)])) → J Γ g11 (28 + i12) (166 + 3 * i12) 122 [(0, .ref t), (1, .ref q1), (2, .ref q10)] []) ?_ ?_ (pu g8 q10 (eo 14 [.null, va_rf (licur n nd 0), .int (nI 0), .int md, .ref (T 3)])) none (fun _ => 0) (fun _ => 0) (KC.new (Ext.new fq10)) (⟨(pu_o (ne_f (k9 _ _ k4 rfl) fq10) (k9 _ _ k4 rfl)), fun i hi => absurd hi (by omega), fun i j hi => absurd hi (by omega)⟩) (fun k hk => absurd hk (by omega)) (pu_s _ _ _)
      · intro g11 lo9 nd2 it2 c1 c2 c3 c4
        show J Γ g11 (28 + n) (166 + 3 * n) 122 [(0, .ref t), (1, .ref q1), (2, .ref q10)] []
        refine J_widen (k2 := 36) (n2 := 190) (by omega) (by omega) ?_
        refine J_aload_n X (dt tX1_copy 59 rfl) 2 rfl ?_
        refine J_callF (na := 0) (rest := []) X (T := TJ26) (C := RJ26) (x := ⟨"java/util/Iterator", "hasNext", "()Z"⟩) (dt tX1_copy 60 rfl) (c_LIhas l D _ (lr := lo9) (cu := licur n nd n) (LLf.kept hl (Kp.ext c1.ext)) (by omega) c4) (lw_F q715 q738 q740 q104 q742) (List.mem_of_getElem? (i := 4) rfl) (by decide) rfl (Or.inl c4) rfl ⟨Nat.le_of_ble_eq_true rfl, Nat.le_of_ble_eq_true rfl⟩ rfl (Nat.le_of_ble_eq_true rfl) (by show 36 + 0 ≤ 36; omega) (by show 190 + 0 ≤ 190; omega) (fun v9 h9 hp9 => ?_)
        obtain ⟨rfl, e9⟩ := hp9
        rw [e9]
        show J Γ g11 36 190 128 [(0, .ref t), (1, .ref q1), (2, .ref q10)] [.int (if nI n ≤ nI n then nI 0 else nI 1)]
        refine J_topi (if_pos (Int32.le_refl _)) ?_
        refine J_if_eq X 152 (dt tX1_copy 61 rfl) (by decide) (fun _ => ?_) (fun c9 => absurd (by decide) c9)
        refine J_aload_n X (dt tX1_copy 71 rfl) 1 rfl ?_
        refine J_aload_n X (dt tX1_copy 72 rfl) 0 rfl ?_
        refine g_X1_82_1 X (dt tX1_copy 73 rfl) (c1.ext _ _ hc.ct) rfl ?_
        refine p_X1_82_1 X (fs2 := [.ref q2, .ref q3, .ref q4, .int (a 0), .int (az a 85)]) (dt tX1_copy 74 rfl) c1.ct rfl rfl rfl rfl ?_
        refine J_aload_n X (dt tX1_copy 75 rfl) 1 rfl ?_
        refine J_aload_n X (dt tX1_copy 76 rfl) 0 rfl ?_
        refine g_X1_85_1 X (dt tX1_copy 77 rfl) (pu_o (ne_f hc.ct b1) (c1.ext _ _ hc.ct)) rfl ?_
        refine p_X1_85_1 X (fs2 := [.ref q2, .ref q3, .ref q4, .int (a 0), .int (a 85)]) (dt tX1_copy 78 rfl) (pu_s _ _ _) rfl rfl rfl rfl ?_
        refine J_heap (h2 := pu g11 q1 (eo 1 [.ref q2, .ref q3, .ref q4, .int (a 0), .int (a 85)])) (pu_pu _ _ _ _) ?_
        refine J_aload_n X (dt tX1_copy 79 rfl) 1 rfl ?_
        exact J_aret X rr (dt tX1_copy 80 rfl) (Nat.le_of_ble_eq_true rfl) (Nat.le_of_ble_eq_true rfl) (Or.inl ⟨_, rfl⟩) (Or.inr ⟨_, rfl⟩) ⟨q1, rfl, b1, (T4 q2 q3 ea q4), rc2, r2, _, _, _, (c1.putT (a' := a) (fun k _ _ => (az_n (by omega) (by omega)).symm) (fun k _ _ => (az_n (by omega) (by omega)).symm)), ⟨_, n, nd2, it2, c2.kept (Kp.put c1.ct rfl), hn8, h84, (fun i hi => by rw [(c3 i hi).1]; exact Kp.put (P := kList) c1.ct rfl _ _ (c1.ext _ _ (hit i hi)) rfl), b4, fun i hi => (c3 i hi).2⟩, Tp.made hp k6⟩
      · intro i12 hi12 ih g11 lo9 nd2 it2 c1 c2 c3 c4
        show J Γ g11 (28 + i12) (166 + 3 * i12) 122 [(0, .ref t), (1, .ref q1), (2, .ref q10)] []
        refine J_aload_n X (dt tX1_copy 59 rfl) 2 rfl ?_
        refine J_callF (na := 0) (rest := []) X (T := TJ26) (C := RJ26) (x := ⟨"java/util/Iterator", "hasNext", "()Z"⟩) (dt tX1_copy 60 rfl) (c_LIhas l D _ (lr := lo9) (cu := licur n nd i12) (LLf.kept hl (Kp.ext c1.ext)) (by omega) c4) (lw_F q715 q738 q740 q104 q742) (List.mem_of_getElem? (i := 4) rfl) (by decide) rfl (Or.inl c4) rfl ⟨Nat.le_of_ble_eq_true rfl, Nat.le_of_ble_eq_true rfl⟩ rfl (Nat.le_of_ble_eq_true rfl) (by show 28 + i12 + 0 ≤ 36; omega) (by show 166 + 3 * i12 + 0 ≤ 190; omega) (fun v9 h9 hp9 => ?_)
        obtain ⟨rfl, e9⟩ := hp9
        rw [e9]
        show J Γ g11 (28 + i12 + 0) (166 + 3 * i12 + 0) 128 [(0, .ref t), (1, .ref q1), (2, .ref q10)] [.int (if nI n ≤ nI i12 then nI 0 else nI 1)]
        refine J_topi (if_neg (nI_ge hi12 (by omega))) ?_
        refine J_if_eq X 152 (dt tX1_copy 61 rfl) (by decide) (fun c9 => absurd c9 (by decide)) (fun _ => ?_)
        refine J_aload_n X (dt tX1_copy 62 rfl) 2 rfl ?_
        refine J_callF (na := 0) (rest := []) X (T := TJ26) (C := RJ26) (x := ⟨"java/util/Iterator", "next", "()Ljava/lang/Object;"⟩) (dt tX1_copy 63 rfl) (c_LInext l D _ (lr := lo9) (LLf.kept hl (Kp.ext c1.ext)) (by omega) (by omega) c4) (lw_F q744 q1002 q1004 q104 q1006) (List.mem_of_getElem? (i := 5) rfl) (by decide) rfl (Or.inl c4) rfl ⟨Nat.le_of_ble_eq_true rfl, Nat.le_of_ble_eq_true rfl⟩ rfl (Nat.le_of_ble_eq_true rfl) (by show 28 + i12 + 0 + 0 ≤ 36; omega) (by show 166 + 3 * i12 + 0 + 0 ≤ 190; omega) (fun v9 h9 hp9 => ?_)
        obtain ⟨rfl, e9⟩ := hp9
        rw [e9]
        show J Γ (pu g11 q10 (eo 14 [.ref (nd i12), va_rf (licur n nd (i12 + 1)), .int (nI (i12 + 1)), .int md, .ref (T 3)])) (28 + i12 + 0 + 0) (166 + 3 * i12 + 0 + 0) 137 [(0, .ref t), (1, .ref q1), (2, .ref q10)] [.ref (it i12)]
        refine J_castS X (C := RX6) (T := TX6) (dt tX1_copy 64 rfl) (Or.inl (pu_o (ne_f (hit i12 hi12) b6) (c1.ext _ _ (hit i12 hi12)))) rfl q616 ?_
        refine J_astore_n X (lv2 := [(3, .ref (it i12)), (0, .ref t), (1, .ref q1), (2, .ref q10)]) (dt tX1_copy 65 rfl) rfl rfl rfl ?_
        refine J_aload_n X (dt tX1_copy 66 rfl) 2 rfl ?_
        refine g_X1_27_1 X (dt tX1_copy 67 rfl) (pu_o (ne_f (k9 _ _ k1 rfl) fq10) c1.ct) rfl ?_
        refine J_aload_n X (dt tX1_copy 68 rfl) 0 rfl ?_
        refine J_callVR (rest := []) X (T := TJ4) (dt tX1_copy 69 rfl) (c_LLadd l D _ (x := it i12) (LLf.pu c2 (c2.nofk c4 rfl rfl))) (lw_V q1093 q1094 q1095 q75 q1096) okJ4_addLast rfl (Or.inl (pu_o (ne_f (k9 _ _ k4 rfl) fq10) c2.1)) rfl ⟨Nat.le_of_ble_eq_true rfl, Nat.le_of_ble_eq_true rfl⟩ rfl (Nat.le_of_ble_eq_true rfl) (by show 28 + i12 + 0 + 0 + 1 ≤ 36; omega) (by show 166 + 3 * i12 + 0 + 0 + 3 ≤ 190; omega) (fun v9 g13 hp9 => ?_)
        obtain ⟨rfl, q8, f8, l8, r8⟩ := hp9
        have p8 : LLf (pu g11 q10 (eo 14 [.ref (nd i12), va_rf (licur n nd (i12 + 1)), .int (nI (i12 + 1)), .int md, .ref (T 3)])) q4 (nI i12) i12 nd2 it2 := (LLf.pu c2 (c2.nofk c4 rfl rfl))
        have x8 := c1.ext.put (e := eo 14 [.ref (nd i12), va_rf (licur n nd (i12 + 1)), .int (nI (i12 + 1)), .int md, .ref (T 3)]) b6
        show J Γ g13 (28 + i12 + 0 + 0 + 1) (166 + 3 * i12 + 0 + 0 + 3) 149 [(3, .ref (it i12)), (0, .ref t), (1, .ref q1), (2, .ref q10)] []
        refine J_goto X (tgt := 122) (dt tX1_copy 70 rfl) (by decide) ?_
        refine J_sub [1, 2, 3] rfl ?_
        refine J_widen (k2 := 28 + (i12 + 1)) (n2 := 166 + 3 * (i12 + 1)) (by omega) (by omega) ?_
        exact ih _ (some (nd i12)) _ _ (c1.keep ((Kp.put c4 rfl).trans (r8.kept p8 kBody rfl rfl)) (r8.ext x8 b4 (fun k hk => (c3 k hk).2))) ((nI_add i12 1) ▸ l8) (cp_k c3 (x8.no f8)) ((r8.kept p8 k14 rfl rfl) _ _ (pu_s _ _ _) rfl)
    · intro i9 hi9 ih g8 lr ea rc2 k7 k8 k9
      show J Γ g8 (13 + 2 * i9) (56 + 15 * i9) 58 [(0, .ref t), (1, .ref q1), (2, .ref q7)] []
      have hcg := hc.new k8.ext
      refine J_aload_n X (dt tX1_copy 31 rfl) 2 rfl ?_
      refine J_callF (na := 0) (rest := []) X (T := TJ21) (C := RJ21) (x := ⟨"java/util/Iterator", "hasNext", "()Z"⟩) (dt tX1_copy 32 rfl) (c_IThas l D _ k7 hcg.rl) (lw_F q715 q729 q731 q98 q733) (List.mem_of_getElem? (i := 2) rfl) (by decide) rfl (Or.inl k7) rfl ⟨Nat.le_of_ble_eq_true rfl, Nat.le_of_ble_eq_true rfl⟩ rfl (Nat.le_of_ble_eq_true rfl) (by show 13 + 2 * i9 + 0 ≤ 36; omega) (by show 56 + 15 * i9 + 0 ≤ 190; omega) (fun v9 h9 hp9 => ?_)
      obtain ⟨rfl, e9⟩ := hp9
      rw [e9]
      show J Γ g8 (13 + 2 * i9 + 0) (56 + 15 * i9 + 0) 64 [(0, .ref t), (1, .ref q1), (2, .ref q7)] [.int (if nI i9 = nI 7 then nI 0 else nI 1)]
      refine J_topi (if_neg (fun z => absurd ((nI_eq (by omega) (by omega)).mp z) (by omega))) ?_
      refine J_if_eq X 114 (dt tX1_copy 33 rfl) (by decide) (fun c9 => absurd c9 (by decide)) (fun _ => ?_)
      refine J_aload_n X (dt tX1_copy 34 rfl) 2 rfl ?_
      refine J_callF (na := 0) (rest := []) X (T := TJ21) (C := RJ21) (x := ⟨"java/util/Iterator", "next", "()Ljava/lang/Object;"⟩) (dt tX1_copy 35 rfl) (c_ITnext l D _ k7 hcg.rl hcg.ea (by omega) (by decide) (by decide)) (lw_F q744 q989 q991 q98 q993) (List.mem_of_getElem? (i := 3) rfl) (by decide) rfl (Or.inl k7) rfl ⟨Nat.le_of_ble_eq_true rfl, Nat.le_of_ble_eq_true rfl⟩ rfl (Nat.le_of_ble_eq_true rfl) (by show 13 + 2 * i9 + 0 + 0 ≤ 36; omega) (by show 56 + 15 * i9 + 0 + 0 ≤ 190; omega) (fun v9 h9 hp9 => ?_)
      obtain ⟨rfl, e9⟩ := hp9
      rw [e9]
      show J Γ (pu g8 q7 (eo 13 [.int (nI (i9 + 1)), .int (nI i9), .int (nI 7), .ref (T 1)])) (13 + 2 * i9 + 0 + 0) (56 + 15 * i9 + 0 + 0) 73 [(0, .ref t), (1, .ref q1), (2, .ref q7)] [va_rf ((fT rc) i9)]
      refine J_topq (rf_s (if_pos (by omega))) ?_
      refine J_castS X (C := RX2) (T := TX2) (dt tX1_copy 36 rfl) (Or.inl (pu_o (ne_f (hc.cr (i := i9) (by omega)) b5) (hcg.cr (i := i9) (by omega)))) rfl q207 ?_
      refine J_astore_n X (lv2 := [(3, .ref (rc i9)), (0, .ref t), (1, .ref q1), (2, .ref q7)]) (dt tX1_copy 37 rfl) rfl rfl rfl ?_
      have hc5 := hcg.keep (Kp.put (e := eo 13 [.int (nI (i9 + 1)), .int (nI i9), .int (nI 7), .ref (T 1)]) k7 rfl) (hc.ext.trans (k8.ext.put b5))
      obtain ⟨w1, w2, w3, w4⟩ := hp.2.1 i9 hi9 trivial
      refine J_aload_n X (dt tX1_copy 38 rfl) 2 rfl ?_
      refine g_X1_20_1 X (dt tX1_copy 39 rfl) (pu_o (ne_c (k9 _ _ k1 rfl) k7 (by decide)) (k9 _ _ k1 rfl)) rfl ?_
      refine J_aload_n X (dt tX1_copy 40 rfl) 0 rfl ?_
      refine J_aload_n X (dt tX1_copy 41 rfl) 2 rfl ?_
      refine J_aload_n X (dt tX1_copy 42 rfl) 0 rfl ?_
      refine g_X1_61_4 X (dt tX1_copy 43 rfl) (pu_o (ne_f (hc.cr (i := i9) (by omega)) b5) (hcg.cr (i := i9) (by omega))) rfl ?_
      refine J_castq X (C := RX5) (T := TX5) (dt tX1_copy 44 rfl) (fun q9 hq9 => Tc.wqp hcg k7 (by omega) (Or.inl hq9)) rfl q126 ?_
      refine J_callVR (rest := [.ref (rc i9), .ref q3]) X (T := TX1) (dt tX1_copy 45 rfl) (c_mineQ l D _ (x := a (33 + i9)) (pu_o (ne_c (k9 _ _ k1 rfl) k7 (by decide)) (k9 _ _ k1 rfl)) (pu_o (Ne.symm (ne_oa k7 (k9 _ _ k2 rfl))) (k9 _ _ k2 rfl)) (Tp.mine hc5 w1 w3)) (lw_V q1012 q1014 qs13 q70 q1015) okX1_mine rfl (Or.inl (pu_o (ne_c (k9 _ _ k1 rfl) k7 (by decide)) (k9 _ _ k1 rfl))) rfl ⟨Nat.le_of_ble_eq_true rfl, Nat.le_of_ble_eq_true rfl⟩ rfl (Nat.le_of_ble_eq_true rfl) (by show 13 + 2 * i9 + 0 + 0 + 0 ≤ 36; omega) (by show 56 + 15 * i9 + 0 + 0 + 0 ≤ 190; omega) (fun v9 h9 hp9 => ?_)
      obtain ⟨rfl, e9⟩ := hp9
      rw [e9]
      show J Γ (pu g8 q7 (eo 13 [.int (nI (i9 + 1)), .int (nI i9), .int (nI 7), .ref (T 1)])) (13 + 2 * i9 + 0 + 0 + 0) (56 + 15 * i9 + 0 + 0 + 0) 93 [(3, .ref (rc i9)), (0, .ref t), (1, .ref q1), (2, .ref q7)] [va_rf (rrn r2 (a (33 + i9))), .ref (rc i9), .ref q3]
      refine J_aload_n X (dt tX1_copy 46 rfl) 2 rfl ?_
      refine J_aload_n X (dt tX1_copy 47 rfl) 0 rfl ?_
      refine g_X1_69_4 X (dt tX1_copy 48 rfl) (pu_o (ne_f (hc.cr (i := i9) (by omega)) b5) (hcg.cr (i := i9) (by omega))) rfl ?_
      refine J_castq X (C := RX5) (T := TX5) (dt tX1_copy 49 rfl) (fun q9 hq9 => Tc.wqp hcg k7 (by omega) (Or.inr hq9)) rfl q126 ?_
      refine J_callVR (rest := [va_rf (rrn r2 (a (33 + i9))), .ref (rc i9), .ref q3]) X (T := TX1) (dt tX1_copy 50 rfl) (c_mineQ l D _ (x := a (40 + i9)) (pu_o (ne_c (k9 _ _ k1 rfl) k7 (by decide)) (k9 _ _ k1 rfl)) (pu_o (Ne.symm (ne_oa k7 (k9 _ _ k2 rfl))) (k9 _ _ k2 rfl)) (Tp.mine hc5 w2 w4)) (lw_V q1012 q1014 qs13 q70 q1015) okX1_mine rfl (Or.inl (pu_o (ne_c (k9 _ _ k1 rfl) k7 (by decide)) (k9 _ _ k1 rfl))) rfl ⟨Nat.le_of_ble_eq_true rfl, Nat.le_of_ble_eq_true rfl⟩ rfl (by generalize rrn r2 (a (33 + i9)) = r90; cases r90 <;> exact Nat.le_of_ble_eq_true rfl) (by show 13 + 2 * i9 + 0 + 0 + 0 + 0 ≤ 36; omega) (by show 56 + 15 * i9 + 0 + 0 + 0 + 0 ≤ 190; omega) (fun v9 h9 hp9 => ?_)
      obtain ⟨rfl, e9⟩ := hp9
      rw [e9]
      show J Γ (pu g8 q7 (eo 13 [.int (nI (i9 + 1)), .int (nI i9), .int (nI 7), .ref (T 1)])) (13 + 2 * i9 + 0 + 0 + 0 + 0) (56 + 15 * i9 + 0 + 0 + 0 + 0) 104 [(3, .ref (rc i9)), (0, .ref t), (1, .ref q1), (2, .ref q7)] [va_rf (rrn r2 (a (40 + i9))), va_rf (rrn r2 (a (33 + i9))), .ref (rc i9), .ref q3]
      refine J_callVR (rest := [.ref q3]) X (T := TX2) (dt tX1_copy 51 rfl) (c_Ccopy l D _ (rrn r2 (a (33 + i9))) (rrn r2 (a (40 + i9))) (pu_o (ne_f (hc.cr (i := i9) (by omega)) b5) (hcg.cr (i := i9) (by omega)))) (lw_V q1016 q1017 q1018 q76 q1019) okX2_copy rfl (Or.inl (pu_o (ne_f (hc.cr (i := i9) (by omega)) b5) (hcg.cr (i := i9) (by omega)))) rfl ⟨Nat.le_of_ble_eq_true rfl, Nat.le_of_ble_eq_true rfl⟩ rfl (Nat.le_of_ble_eq_true rfl) (by show 13 + 2 * i9 + 0 + 0 + 0 + 0 + 1 ≤ 36; omega) (by show 56 + 15 * i9 + 0 + 0 + 0 + 0 + 5 ≤ 190; omega) (fun v9 h9 hp9 => ?_)
      obtain ⟨q14, fq14, rfl, rfl⟩ := hp9
      show J Γ (pu (pu g8 q7 (eo 13 [.int (nI (i9 + 1)), .int (nI i9), .int (nI 7), .ref (T 1)])) q14 (eo 4 [va_rf (rrn r2 (a (33 + i9))), va_rf (rrn r2 (a (40 + i9))), .long (un i9), .int (a (54 + i9)), .int (a (61 + i9))])) (13 + 2 * i9 + 0 + 0 + 0 + 0 + 1) (56 + 15 * i9 + 0 + 0 + 0 + 0 + 5) 107 [(3, .ref (rc i9)), (0, .ref t), (1, .ref q1), (2, .ref q7)] [.ref q14, .ref q3]
      refine J_callVR (rest := []) X (T := TJ2) (dt tX1_copy 52 rfl) (c_LAaddR l D _ ((k8.keep (Kp.put k7 rfl) (k8.ext.put b5)).new (Ext.new fq14)) (by omega) (by exact (pu_s _ _ _)) ((k8.ext.put b5).no fq14) (fun z hz => ne_f ((k8.keep (Kp.put k7 rfl) (k8.ext.put b5)).cr hz) fq14)) (lw_V q238 q239 q240 q73 q241) okJ2_add rfl (Or.inl (pu_o (ne_f (pu_o (ne_c k8.cl k7 (by decide)) k8.cl) fq14) (pu_o (ne_c k8.cl k7 (by decide)) k8.cl))) rfl ⟨Nat.le_of_ble_eq_true rfl, Nat.le_of_ble_eq_true rfl⟩ rfl (Nat.le_of_ble_eq_true rfl) (by show 13 + 2 * i9 + 0 + 0 + 0 + 0 + 1 + 1 ≤ 36; omega) (by show 56 + 15 * i9 + 0 + 0 + 0 + 0 + 5 + 10 ≤ 190; omega) (fun v9 g15 hp9 => ?_)
      obtain ⟨rfl, ⟨ea2, R2⟩, kp2⟩ := hp9
      show J Γ g15 (13 + 2 * i9 + 0 + 0 + 0 + 0 + 1 + 1) (56 + 15 * i9 + 0 + 0 + 0 + 0 + 5 + 10) 110 [(3, .ref (rc i9)), (0, .ref t), (1, .ref q1), (2, .ref q7)] [.int (nI 1)]
      refine J_pop X (dt tX1_copy 53 rfl) rfl ?_
      refine J_goto X (tgt := 58) (dt tX1_copy 54 rfl) (by decide) ?_
      refine J_sub [1, 2, 3] rfl ?_
      refine J_widen (k2 := 13 + 2 * (i9 + 1)) (n2 := 56 + 15 * (i9 + 1)) (by omega) (by omega) ?_
      exact ih _ _ _ _ (kp2 _ _ (pu_o (ne_f (pu_s _ _ _) fq14) (pu_s _ _ _)) rfl) R2 (k9.trans ((Kp.put k7 rfl).trans ((Kp.ext (Ext.new fq14)).trans (fun q9 e9 y9 w9 => kp2 q9 e9 y9 (kStay_L w9)))))
  · intro i6 hi6 ih g5 r2 k1 k2 k3 k4 k5 k6
    show J Γ g5 (4 + i6) (20 + 4 * i6) 10 [(0, .ref t), (1, .ref q1), (2, .int (nI i6))] []
    have hcg := hc.new k5
    cases hq : ru i6 with
    | none =>
      refine J_iload_n X (dt tX1_copy 6 rfl) 2 rfl ?_
      refine J_bipush X (nI 8) (dt tX1_copy 7 rfl) (by decide) ?_
      refine J_icmp_ge X 50 (dt tX1_copy 8 rfl) (by decide) (fun c9 => absurd c9 (nI_ge hi6 (by omega))) (fun _ => ?_)
      refine J_aload_n X (dt tX1_copy 9 rfl) 1 rfl ?_
      refine g_X1_11_1 X (dt tX1_copy 10 rfl) k1 rfl ?_
      refine J_iload_n X (dt tX1_copy 11 rfl) 2 rfl ?_
      refine J_aload_n X (dt tX1_copy 12 rfl) 0 rfl ?_
      refine g_X1_11_1 X (dt tX1_copy 13 rfl) hcg.ct rfl ?_
      refine J_iload_n X (dt tX1_copy 14 rfl) 2 rfl ?_
      refine J_rald X (dt tX1_copy 15 rfl) hcg.ln (by omega) (by decide) ?_
      refine J_topq (congrArg va_rf hq) ?_
      refine J_ifnonnull X none 34 (dt tX1_copy 16 rfl) (by decide) (fun _ c9 => by cases c9) (fun _ => ?_)
      refine J_null X (dt tX1_copy 17 rfl) ?_
      refine J_goto X (tgt := 43) (dt tX1_copy 18 rfl) (by decide) ?_
      refine J_rastN X (dt tX1_copy 24 rfl) k2 (by omega) (by decide) ?_
      refine J_iinc X (lv2 := [(2, .int (nI (i6 + 1))), (0, .ref t), (1, .ref q1)]) (dt tX1_copy 25 rfl) 2 (nI (i6 + 1)) rfl (nI_add i6 1) rfl rfl ?_
      refine J_goto X (tgt := 10) (dt tX1_copy 26 rfl) (by decide) ?_
      refine J_sub [1, 2, 0] rfl ?_
      refine J_widen (k2 := 4 + (i6 + 1)) (n2 := 20 + 4 * (i6 + 1)) (by omega) (by omega) ?_
      exact ih _ _ (pu_o (ne_f (pu_s _ _ _) fq2) k1) (pu_s _ _ _) (pu_o (Ne.symm nq2q3) k3) (pu_o (Ne.symm nq2q4) k4) (k5.put b2) ((k6.keep (Kp.put k2 rfl)).non hq)
    | some q9 =>
      refine J_iload_n X (dt tX1_copy 6 rfl) 2 rfl ?_
      refine J_bipush X (nI 8) (dt tX1_copy 7 rfl) (by decide) ?_
      refine J_icmp_ge X 50 (dt tX1_copy 8 rfl) (by decide) (fun c9 => absurd c9 (nI_ge hi6 (by omega))) (fun _ => ?_)
      refine J_aload_n X (dt tX1_copy 9 rfl) 1 rfl ?_
      refine g_X1_11_1 X (dt tX1_copy 10 rfl) k1 rfl ?_
      refine J_iload_n X (dt tX1_copy 11 rfl) 2 rfl ?_
      refine J_aload_n X (dt tX1_copy 12 rfl) 0 rfl ?_
      refine g_X1_11_1 X (dt tX1_copy 13 rfl) hcg.ct rfl ?_
      refine J_iload_n X (dt tX1_copy 14 rfl) 2 rfl ?_
      refine J_rald X (dt tX1_copy 15 rfl) hcg.ln (by omega) (by decide) ?_
      refine J_topq (rf_s hq) ?_
      refine J_ifnonnull X (some q9) 34 (dt tX1_copy 16 rfl) (by decide) (fun _ _ => ?_) (fun c9 => by cases c9)
      refine J_aload_n X (dt tX1_copy 19 rfl) 0 rfl ?_
      refine g_X1_11_1 X (dt tX1_copy 20 rfl) hcg.ct rfl ?_
      refine J_iload_n X (dt tX1_copy 21 rfl) 2 rfl ?_
      refine J_rald X (dt tX1_copy 22 rfl) hcg.ln (by omega) (by decide) ?_
      refine J_topq (rf_s hq) ?_
      refine J_callVR (rest := [.int (nI i6), .ref q2]) X (T := TX5) (dt tX1_copy 23 rfl) (c_Rcopy l D _ (hcg.cu hi6 hq)) (lw_V q684 q685 q686 q93 q687) okX5_copy rfl (Or.inl (hcg.cu hi6 hq)) rfl ⟨Nat.le_of_ble_eq_true rfl, Nat.le_of_ble_eq_true rfl⟩ rfl (Nat.le_of_ble_eq_true rfl) (by show 4 + i6 + 1 ≤ 36; omega) (by show 20 + 4 * i6 + 4 ≤ 190; omega) (fun v9 h9 hp9 => ?_)
      obtain ⟨q16, fq16, rfl, rfl⟩ := hp9
      show J Γ (pu g5 q16 (eo 10 [.int (nI i6), .int (a (9 + i6)), .int (a (17 + i6)), .int (a (25 + i6))])) (4 + i6 + 1) (20 + 4 * i6 + 4) 43 [(0, .ref t), (1, .ref q1), (2, .int (nI i6))] [.ref q16, .int (nI i6), .ref q2]
      refine J_rast X (dt tX1_copy 24 rfl) (pu_o (ne_f k2 fq16) k2) (pu_s _ _ _) (by omega) (by decide) ?_
      refine J_iinc X (lv2 := [(2, .int (nI (i6 + 1))), (0, .ref t), (1, .ref q1)]) (dt tX1_copy 25 rfl) 2 (nI (i6 + 1)) rfl (nI_add i6 1) rfl rfl ?_
      refine J_goto X (tgt := 10) (dt tX1_copy 26 rfl) (by decide) ?_
      refine J_sub [1, 2, 0] rfl ?_
      refine J_widen (k2 := 4 + (i6 + 1)) (n2 := 20 + 4 * (i6 + 1)) (by omega) (by omega) ?_
      exact ih _ _ (pu_o (ne_f (pu_s _ _ _) fq2) (pu_o (ne_f k1 fq16) k1)) (pu_s _ _ _) (pu_o (Ne.symm nq2q3) (pu_o (ne_f k3 fq16) k3)) (pu_o (Ne.symm nq2q4) (pu_o (ne_f k4 fq16) k4)) ((k5.trans (Ext.new fq16)).put b2) ((k6.keep ((Kp.ext (Ext.new fq16)).trans (Kp.put (pu_o (ne_f k2 fq16) k2) rfl))).som hq (pu_o (Ne.symm (ne_f k2 fq16)) (pu_s _ _ _)) (k5.no fq16))
