/-! printed by gen/compw.py -/
set_option maxRecDepth 100000
theorem q96 : (Jvm.Cond.initialized "LeadRaces$Lead") ∈ lw_all := lw_g (lw_at lw_m1 28 rfl) rfl
theorem q186 : (Jvm.Cond.fieldLink "LeadRaces$Track" (27 : Nat) "LeadRaces$Track" "leads" "Ljava/util/LinkedList;") ∈ lw_all := lw_g (lw_at lw_m1 118 rfl) rfl
theorem q190 : (Jvm.Cond.fieldLink "LeadRaces$Track" (85 : Nat) "LeadRaces$Track" "turns" "I") ∈ lw_all := lw_g (lw_at lw_m1 122 rfl) rfl
theorem q587 : (Jvm.Cond.methodLink "LeadRaces$Track" (108 : Nat) ({ cls := "LeadRaces$Track", name := "leader", desc := "()LLeadRaces$Runner;" } : Jvm.MethodName)) ∈ lw_all := lw_g (lw_at lw_m3 39 rfl) rfl
theorem q588 : (Jvm.Cond.instanceMethod ({ cls := "LeadRaces$Track", name := "leader", desc := "()LLeadRaces$Runner;" } : Jvm.MethodName)) ∈ lw_all := lw_g (lw_at lw_m3 40 rfl) rfl
theorem q589 : (Jvm.Cond.selects "LeadRaces$Track" ({ cls := "LeadRaces$Track", name := "leader", desc := "()LLeadRaces$Runner;" } : Jvm.MethodName) ({ cls := "LeadRaces$Track", name := "leader", desc := "()LLeadRaces$Runner;" } : Jvm.MethodName)) ∈ lw_all := lw_g (lw_at lw_m3 41 rfl) rfl
theorem q590 : (Jvm.Cond.code ({ cls := "LeadRaces$Track", name := "leader", desc := "()LLeadRaces$Runner;" } : Jvm.MethodName) prog_10_method_6_code (1 : Nat) (Option.some (Jvm.ClassFile.FieldType.object "LeadRaces$Runner"))) ∈ lw_all := lw_g (lw_at lw_m3 42 rfl) rfl
theorem q591 : (Jvm.Cond.methodLink "LeadRaces$Track" (111 : Nat) ({ cls := "java/util/LinkedList", name := "isEmpty", desc := "()Z" } : Jvm.MethodName)) ∈ lw_all := lw_g (lw_at lw_m3 43 rfl) rfl
theorem q592 : (Jvm.Cond.sameMethod "java/util/LinkedList" "java/util/AbstractCollection" "isEmpty" "()Z") ∈ lw_all := lw_g (lw_at lw_m3 44 rfl) rfl
theorem q594 : (Jvm.Cond.selects "java/util/LinkedList" ({ cls := "java/util/LinkedList", name := "isEmpty", desc := "()Z" } : Jvm.MethodName) ({ cls := "java/util/AbstractCollection", name := "isEmpty", desc := "()Z" } : Jvm.MethodName)) ∈ lw_all := lw_g (lw_at lw_m3 46 rfl) rfl
theorem q595 : (Jvm.Cond.instanceMethod ({ cls := "java/util/AbstractCollection", name := "isEmpty", desc := "()Z" } : Jvm.MethodName)) ∈ lw_all := lw_g (lw_at lw_m3 47 rfl) rfl
theorem q596 : (Jvm.Cond.code ({ cls := "java/util/AbstractCollection", name := "isEmpty", desc := "()Z" } : Jvm.MethodName) prog_38_method_4_code (1 : Nat) (Option.some Jvm.ClassFile.FieldType.boolean)) ∈ lw_all := lw_g (lw_at lw_m3 48 rfl) rfl
theorem q612 : (Jvm.Cond.methodLink "LeadRaces$Track" (114 : Nat) ({ cls := "java/util/LinkedList", name := "getFirst", desc := "()Ljava/lang/Object;" } : Jvm.MethodName)) ∈ lw_all := lw_g (lw_at lw_m3 64 rfl) rfl
theorem q613 : (Jvm.Cond.instanceMethod ({ cls := "java/util/LinkedList", name := "getFirst", desc := "()Ljava/lang/Object;" } : Jvm.MethodName)) ∈ lw_all := lw_g (lw_at lw_m3 65 rfl) rfl
theorem q614 : (Jvm.Cond.selects "java/util/LinkedList" ({ cls := "java/util/LinkedList", name := "getFirst", desc := "()Ljava/lang/Object;" } : Jvm.MethodName) ({ cls := "java/util/LinkedList", name := "getFirst", desc := "()Ljava/lang/Object;" } : Jvm.MethodName)) ∈ lw_all := lw_g (lw_at lw_m3 66 rfl) rfl
theorem q615 : (Jvm.Cond.code ({ cls := "java/util/LinkedList", name := "getFirst", desc := "()Ljava/lang/Object;" } : Jvm.MethodName) prog_52_method_9_code (2 : Nat) (Option.some (Jvm.ClassFile.FieldType.object "java/lang/Object"))) ∈ lw_all := lw_g (lw_at lw_m3 67 rfl) rfl
theorem q616 : (Jvm.Cond.classLink "LeadRaces$Track" (76 : Nat) "LeadRaces$Lead") ∈ lw_all := lw_g (lw_at lw_m3 68 rfl) rfl
theorem q617 : (Jvm.Cond.instantiable "LeadRaces$Lead" (2 : Nat)) ∈ lw_all := lw_g (lw_at lw_m3 69 rfl) rfl
theorem q618 : (Jvm.Cond.methodLink "LeadRaces$Track" (118 : Nat) ({ cls := "LeadRaces$Lead", name := "<init>", desc := "(II)V" } : Jvm.MethodName)) ∈ lw_all := lw_g (lw_at lw_m3 70 rfl) rfl
theorem q619 : (Jvm.Cond.instanceMethod ({ cls := "LeadRaces$Lead", name := "<init>", desc := "(II)V" } : Jvm.MethodName)) ∈ lw_all := lw_g (lw_at lw_m3 71 rfl) rfl
theorem q620 : (Jvm.Cond.code ({ cls := "LeadRaces$Lead", name := "<init>", desc := "(II)V" } : Jvm.MethodName) prog_4_method_1_code (3 : Nat) (Option.none : Option Jvm.ClassFile.FieldType)) ∈ lw_all := lw_g (lw_at lw_m3 72 rfl) rfl
theorem q623 : (Jvm.Cond.fieldLinkNest "LeadRaces$Track" (117 : Nat) "LeadRaces$Lead" "lane" "I" "LeadRaces") ∈ lw_tbl := lw_at lw_m3 75 rfl
theorem q632 : (Jvm.Cond.methodLink "LeadRaces$Track" (121 : Nat) ({ cls := "java/util/LinkedList", name := "addFirst", desc := "(Ljava/lang/Object;)V" } : Jvm.MethodName)) ∈ lw_all := lw_g (lw_at lw_m3 84 rfl) rfl
theorem q633 : (Jvm.Cond.instanceMethod ({ cls := "java/util/LinkedList", name := "addFirst", desc := "(Ljava/lang/Object;)V" } : Jvm.MethodName)) ∈ lw_all := lw_g (lw_at lw_m3 85 rfl) rfl
theorem q634 : (Jvm.Cond.selects "java/util/LinkedList" ({ cls := "java/util/LinkedList", name := "addFirst", desc := "(Ljava/lang/Object;)V" } : Jvm.MethodName) ({ cls := "java/util/LinkedList", name := "addFirst", desc := "(Ljava/lang/Object;)V" } : Jvm.MethodName)) ∈ lw_all := lw_g (lw_at lw_m3 86 rfl) rfl
theorem q635 : (Jvm.Cond.code ({ cls := "java/util/LinkedList", name := "addFirst", desc := "(Ljava/lang/Object;)V" } : Jvm.MethodName) prog_52_method_13_code (2 : Nat) (Option.none : Option Jvm.ClassFile.FieldType)) ∈ lw_all := lw_g (lw_at lw_m3 87 rfl) rfl
theorem q661 : (Jvm.Cond.methodLink "LeadRaces$Track" (124 : Nat) ({ cls := "java/util/LinkedList", name := "size", desc := "()I" } : Jvm.MethodName)) ∈ lw_all := lw_g (lw_at lw_m3 113 rfl) rfl
theorem q662 : (Jvm.Cond.methodLink "LeadRaces$Track" (128 : Nat) ({ cls := "java/util/LinkedList", name := "removeLast", desc := "()Ljava/lang/Object;" } : Jvm.MethodName)) ∈ lw_all := lw_g (lw_at lw_m3 114 rfl) rfl
theorem q663 : (Jvm.Cond.instanceMethod ({ cls := "java/util/LinkedList", name := "removeLast", desc := "()Ljava/lang/Object;" } : Jvm.MethodName)) ∈ lw_all := lw_g (lw_at lw_m3 115 rfl) rfl
theorem q664 : (Jvm.Cond.selects "java/util/LinkedList" ({ cls := "java/util/LinkedList", name := "removeLast", desc := "()Ljava/lang/Object;" } : Jvm.MethodName) ({ cls := "java/util/LinkedList", name := "removeLast", desc := "()Ljava/lang/Object;" } : Jvm.MethodName)) ∈ lw_all := lw_g (lw_at lw_m3 116 rfl) rfl
theorem q665 : (Jvm.Cond.code ({ cls := "java/util/LinkedList", name := "removeLast", desc := "()Ljava/lang/Object;" } : Jvm.MethodName) prog_52_method_12_code (2 : Nat) (Option.some (Jvm.ClassFile.FieldType.object "java/lang/Object"))) ∈ lw_all := lw_g (lw_at lw_m3 117 rfl) rfl
theorem q2130 : (Jvm.Cond.selects "java/util/LinkedList" ({ cls := "java/util/LinkedList", name := "size", desc := "()I" } : Jvm.MethodName) ({ cls := "java/util/LinkedList", name := "size", desc := "()I" } : Jvm.MethodName)) ∈ lw_all := lw_g (lw_at lw_m9 142 rfl) rfl
section
variable {l : Launch} {D : va_G} {cc : ByteArray} {nL : Nat} {rm : Room} {Γ : Cxt} {h : PH} {k n pc nx : Nat} {lv : List (Nat × Value)} {st : List Value}
theorem g_X1_27_1 (X : Cx l D cc RX1 nL rm Γ) {a : Nat} {fs : List Value} {v : Value} (d : At cc pc (.getfield 27) 3 nx) (ha : h a = some (eo 1 fs)) (hv : fs[2]? = some v) (kk : J Γ h k n nx lv (v :: st)) : J Γ h k n pc lv (.ref a :: st) := J_get X (kf := 2) d ha (show vwCl[1]? = some (RX1, TX1, 5) from rfl) in_X1 rfl q186 rfl hv kk
theorem n_X1_76 (X : Cx l D cc RX1 nL rm Γ) (d : At cc pc (.new 76) 3 nx) (hk : k + 1 ≤ rm.cells) (hn : n + 2 ≤ rm.slots) (kk : ∀ q, h q = none → J Γ (pu h q (eo 11 [.int (nI 0), .int (nI 0)])) (k + 1) (n + 2) nx lv (.ref q :: st)) : J Γ h k n pc lv st := J_new X (tf := tyX6) d (show vwCl[11]? = some (RX6, TX6, 2) from rfl) in_X6 tyX6_ok q616 q617 q96 (by decide) hk hn kk
theorem g_X1_85_1 (X : Cx l D cc RX1 nL rm Γ) {a : Nat} {fs : List Value} {v : Value} (d : At cc pc (.getfield 85) 3 nx) (ha : h a = some (eo 1 fs)) (hv : fs[4]? = some v) (kk : J Γ h k n nx lv (v :: st)) : J Γ h k n pc lv (.ref a :: st) := J_get X (kf := 4) d ha (show vwCl[1]? = some (RX1, TX1, 5) from rfl) in_X1 rfl q190 rfl hv kk
theorem p_X1_85_1 (X : Cx l D cc RX1 nL rm Γ) {a : Nat} {fs fs2 : List Value} {v : Value} (d : At cc pc (.putfield 85) 3 nx) (ha : h a = some (eo 1 fs)) (hn : narrow (.int) v = v) (hfit : fits (.int) v = true) (hl2 : Nat.ble (4 + 1) fs.length = true) (hfs : fs.set 4 v = fs2) (kk : J Γ (pu h a (eo 1 fs2)) k n nx lv st) : J Γ h k n pc lv (v :: .ref a :: st) := J_put X (kf := 4) (tf := tyX1) d ha (show vwCl[1]? = some (RX1, TX1, 5) from rfl) in_X1 tyX1_ok nmX1 rfl q190 rfl rfl rfl hn hfit hl2 hfs kk
theorem g_X1_117_11 (X : Cx l D cc RX1 nL rm Γ) {a : Nat} {fs : List Value} {v : Value} (d : At cc pc (.getfield 117) 3 nx) (ha : h a = some (eo 11 fs)) (hv : fs[0]? = some v) (kk : J Γ h k n nx lv (v :: st)) : J Γ h k n pc lv (.ref a :: st) := J_getN X (kf := 0) d ha (show vwCl[11]? = some (RX6, TX6, 2) from rfl) in_X6 rfl q623 rfl hv kk
end
abbrev cX1_leads : ByteArray := prog_10_method_9_code
def yX1_leads : MethodName := ⟨RX1, "leads", "()V"⟩
theorem tX1_leads : dtab cX1_leads [(0, .aload_n 0, 1, 1), (1, .invokevirtual 108, 3, 4), (4, .astore_n 1, 1, 5), (5, .aload_n 1, 1, 6), (6, .ifnonnull 7, 3, 9), (9, .iconst (-1), 1, 10), (10, .goto 7, 3, 13), (13, .aload_n 1, 1, 14), (14, .getfield 38, 3, 17), (17, .istore_n 2, 1, 18), (18, .aload_n 0, 1, 19), (19, .getfield 27, 3, 22), (22, .invokevirtual 111, 3, 25), (25, .ifCond .eq 7, 3, 28), (28, .iconst (-1), 1, 29), (29, .goto 16, 3, 32), (32, .aload_n 0, 1, 33), (33, .getfield 27, 3, 36), (36, .invokevirtual 114, 3, 39), (39, .checkcast 76, 3, 42), (42, .getfield 117, 3, 45), (45, .istore_n 3, 1, 46), (46, .iload_n 2, 1, 47), (47, .iload_n 3, 1, 48), (48, .if_icmp .eq 52, 3, 51), (51, .aload_n 0, 1, 52), (52, .getfield 27, 3, 55), (55, .new 76, 3, 58), (58, .dup, 1, 59), (59, .iload_n 2, 1, 60), (60, .aload_n 0, 1, 61), (61, .getfield 82, 3, 64), (64, .invokespecial 118, 3, 67), (67, .invokevirtual 121, 3, 70), (70, .aload_n 0, 1, 71), (71, .dup, 1, 72), (72, .getfield 85, 3, 75), (75, .iconst 1, 1, 76), (76, .iadd, 1, 77), (77, .putfield 85, 3, 80), (80, .aload_n 0, 1, 81), (81, .getfield 27, 3, 84), (84, .invokevirtual 124, 3, 87), (87, .bipush 8, 2, 89), (89, .if_icmp .le 11, 3, 92), (92, .aload_n 0, 1, 93), (93, .getfield 27, 3, 96), (96, .invokevirtual 128, 3, 99), (99, .pop, 1, 100), (100, .return_, 1, 101)] := by unfold dtab; decide +kernel
theorem okX1_leads : okY yX1_leads 0 := by decide +kernel
set_option maxHeartbeats 4000000 in
theorem c_Tleads (l : Launch) (D : va_G) (h : PH) {b : PH} {t : Nat} {T rc : Nat → Nat} {ru : Nat → Option Nat} {S : Nat → Prop} {σ : MS}  (H : TK b h t T rc ru S (σ.1 0)) (h6 : S 6) : Ct l D yX1_leads cX1_leads 4 none (rmC 4 87 2 5) [.ref t] h (fun v h9 => v = none ∧ TK b h9 t T rc ru S ((m_putsT σ (kpo σ)).1 0)) := by
  refine Ct.of (by decide) rfl (fun Γ X rr hmn => ?_)
  have X : Cx l D cX1_leads RX1 4 (rmC 4 87 2 5) Γ := X
  show J Γ h 0 0 0 [(0, .ref t)] []
  have H0 := H
  obtain ⟨wn, ot, un, hc, ⟨md, n, nd, it, hl, hn8, h84, hit, bd, bn⟩, hp⟩ := H0
  have hk : kpo σ = n := by unfold kpo; rw [h84, nI_clamp (by omega)]
  have key : J Γ h 0 0 18 [(0, .ref t), (2, .int (σ.1 0 39))] [] := by
    have key2 : J Γ h 0 0 46 [(0, .ref t), (2, .int (σ.1 0 39)), (3, .int (m_leaderBefore σ n))] [] := by
      refine J_iload_n X (dt tX1_leads 22 rfl) 1 rfl ?_
      refine J_iload_n X (dt tX1_leads 23 rfl) 2 rfl ?_
      refine J_icmp_eq X 100 (dt tX1_leads 24 rfl) (by decide) (fun c9a => ?_) (fun c9a => ?_)
      · exact J_vret X rr (dt tX1_leads 49 rfl) (Nat.le_of_ble_eq_true rfl) (Nat.le_of_ble_eq_true rfl) ⟨rfl, by rw [hk, m_putsT, if_pos (show m_leaderNow σ = m_leaderBefore σ n from c9a)]; exact H⟩
      · by_cases h8 : n = 8
        · subst h8
          refine J_aload_n X (dt tX1_leads 25 rfl) 0 rfl ?_
          refine g_X1_27_1 X (dt tX1_leads 26 rfl) hc.ct rfl ?_
          refine n_X1_76 X (dt tX1_leads 27 rfl) (Nat.le_of_ble_eq_true rfl) (Nat.le_of_ble_eq_true rfl) (fun q1 fq1 => ?_)
          refine J_dup X (dt tX1_leads 28 rfl) rfl ?_
          refine J_iload_n X (dt tX1_leads 29 rfl) 1 rfl ?_
          refine J_aload_n X (dt tX1_leads 30 rfl) 0 rfl ?_
          refine g_X1_82_1 X (dt tX1_leads 31 rfl) (pu_o (ne_f hc.ct fq1) hc.ct) rfl ?_
          refine J_callI (rest := [.ref q1, .ref (T 3)]) X (dt tX1_leads 32 rfl) (c_Linit l D _ (σ.1 0 39) (σ.1 0 0) (pu_s _ _ _)) (lw_meth q620) q96 q618 q619 rfl okX6_init rfl ⟨Nat.le_of_ble_eq_true rfl, Nat.le_of_ble_eq_true rfl⟩ rfl (Nat.le_of_ble_eq_true rfl) (Nat.le_of_ble_eq_true rfl) (Nat.le_of_ble_eq_true rfl) (fun v9 h9 hp9 => ?_)
          obtain ⟨rfl, e9⟩ := hp9
          rw [e9]
          refine J_heap (h2 := pu h q1 (eo 11 [.int (σ.1 0 39), .int (σ.1 0 0)])) (pu_pu _ _ _ _) ?_
          show J Γ (pu h q1 (eo 11 [.int (σ.1 0 39), .int (σ.1 0 0)])) 1 2 67 [(0, .ref t), (2, .int (σ.1 0 39)), (3, .int (m_leaderBefore σ 8))] [.ref q1, .ref (T 3)]
          refine J_callVR (rest := []) X (T := TJ4) (dt tX1_leads 33 rfl) (c_LLfst l D _ (x := q1) (LLf.pu hl (hl.nofp fq1))) (lw_V q632 q633 q634 q75 q635) okJ4_addFirst rfl (Or.inl (pu_o (ne_f hl.1 fq1) hl.1)) rfl ⟨Nat.le_of_ble_eq_true rfl, Nat.le_of_ble_eq_true rfl⟩ rfl (Nat.le_of_ble_eq_true rfl) (Nat.le_of_ble_eq_true rfl) (Nat.le_of_ble_eq_true rfl) (fun v9 g2 hp9 => ?_)
          obtain ⟨rfl, q3, fq3, hlq3, hfq3⟩ := hp9
          show J Γ g2 2 5 70 [(0, .ref t), (2, .int (σ.1 0 39)), (3, .int (m_leaderBefore σ 8))] []
          refine J_aload_n X (dt tX1_leads 34 rfl) 0 rfl ?_
          refine J_dup X (dt tX1_leads 35 rfl) rfl ?_
          refine g_X1_85_1 X (dt tX1_leads 36 rfl) ((hfq3.kept (LLf.pu hl (hl.nofp fq1)) kBody rfl rfl) _ _ (pu_o (ne_f hc.ct fq1) hc.ct) rfl) rfl ?_
          refine J_iconst X (nI 1) (dt tX1_leads 37 rfl) (by decide) ?_
          refine J_iadd X (dt tX1_leads 38 rfl) ?_
          refine p_X1_85_1 X (fs2 := [.ref (T 0), .ref (T 1), .ref (T 3), .int (σ.1 0 0), .int ((σ.1 0 85) + (nI 1))]) (dt tX1_leads 39 rfl) ((hfq3.kept (LLf.pu hl (hl.nofp fq1)) kBody rfl rfl) _ _ (pu_o (ne_f hc.ct fq1) hc.ct) rfl) rfl rfl rfl rfl ?_
          refine J_aload_n X (dt tX1_leads 40 rfl) 0 rfl ?_
          refine g_X1_27_1 X (dt tX1_leads 41 rfl) (pu_s _ _ _) rfl ?_
          refine J_callVR (rest := []) X (T := TJ4) (dt tX1_leads 42 rfl) (c_LLsize l D _ (a := T 3) (n := 8 + 1) (md := md + nI 1) (f := lfst (8 + 1) (cnN nd q3)) (z := llst (8 + 1) (cnN nd q3)) (pu_o (ne_c hlq3.1 ((hfq3.kept (LLf.pu hl (hl.nofp fq1)) kBody rfl rfl) _ _ (pu_o (ne_f hc.ct fq1) hc.ct) rfl) (by decide)) hlq3.1)) (lw_V q661 q610 q2130 q75 q611) okJ4_size rfl (Or.inl (pu_o (ne_c hlq3.1 ((hfq3.kept (LLf.pu hl (hl.nofp fq1)) kBody rfl rfl) _ _ (pu_o (ne_f hc.ct fq1) hc.ct) rfl) (by decide)) hlq3.1)) rfl ⟨Nat.le_of_ble_eq_true rfl, Nat.le_of_ble_eq_true rfl⟩ rfl (Nat.le_of_ble_eq_true rfl) (Nat.le_of_ble_eq_true rfl) (Nat.le_of_ble_eq_true rfl) (fun v9 h9 hp9 => ?_)
          obtain ⟨rfl, e9⟩ := hp9
          rw [e9]
          show J Γ (pu g2 t (eo 1 [.ref (T 0), .ref (T 1), .ref (T 3), .int (σ.1 0 0), .int ((σ.1 0 85) + (nI 1))])) 2 5 87 [(0, .ref t), (2, .int (σ.1 0 39)), (3, .int (m_leaderBefore σ 8))] [.int (nI (8 + 1))]
          refine J_bipush X (nI 8) (dt tX1_leads 43 rfl) (by decide) ?_
          refine J_icmp_le X 100 (dt tX1_leads 44 rfl) (by decide) (fun c9 => absurd c9 (by decide)) (fun _ => ?_)
          refine J_aload_n X (dt tX1_leads 45 rfl) 0 rfl ?_
          refine g_X1_27_1 X (dt tX1_leads 46 rfl) (pu_s _ _ _) rfl ?_
          refine J_callVR (rest := []) X (T := TJ4) (dt tX1_leads 47 rfl) (c_LLrml l D _ (n := 7) (LLf.pu hlq3 (hlq3.nofk ((hfq3.kept (LLf.pu hl (hl.nofp fq1)) kBody rfl rfl) _ _ (pu_o (ne_f hc.ct fq1) hc.ct) rfl) rfl rfl))) (lw_V q662 q663 q664 q75 q665) okJ4_removeLast rfl (Or.inl (pu_o (ne_c hlq3.1 ((hfq3.kept (LLf.pu hl (hl.nofp fq1)) kBody rfl rfl) _ _ (pu_o (ne_f hc.ct fq1) hc.ct) rfl) (by decide)) hlq3.1)) rfl ⟨Nat.le_of_ble_eq_true rfl, Nat.le_of_ble_eq_true rfl⟩ rfl (Nat.le_of_ble_eq_true rfl) (Nat.le_of_ble_eq_true rfl) (Nat.le_of_ble_eq_true rfl) (fun v9 g4 hp9 => ?_)
          obtain ⟨rfl, hl3, hf3⟩ := hp9
          show J Γ g4 2 5 99 [(0, .ref t), (2, .int (σ.1 0 39)), (3, .int (m_leaderBefore σ 8))] [.ref ((cnN it q1) (7 + 1))]
          refine J_pop X (dt tX1_leads 48 rfl) rfl ?_
          exact J_vret X rr (dt tX1_leads 49 rfl) (Nat.le_of_ble_eq_true rfl) (Nat.le_of_ble_eq_true rfl) ⟨rfl, by rw [hk, m_putsT, if_neg (show ¬ m_leaderNow σ = m_leaderBefore σ 8 from c9a)]; exact TK.lead8 hc hp hl hit bd bn fq1 rfl fq3 hlq3 hfq3 hl3 hf3⟩
        · refine J_aload_n X (dt tX1_leads 25 rfl) 0 rfl ?_
          refine g_X1_27_1 X (dt tX1_leads 26 rfl) hc.ct rfl ?_
          refine n_X1_76 X (dt tX1_leads 27 rfl) (Nat.le_of_ble_eq_true rfl) (Nat.le_of_ble_eq_true rfl) (fun q5 fq5 => ?_)
          refine J_dup X (dt tX1_leads 28 rfl) rfl ?_
          refine J_iload_n X (dt tX1_leads 29 rfl) 1 rfl ?_
          refine J_aload_n X (dt tX1_leads 30 rfl) 0 rfl ?_
          refine g_X1_82_1 X (dt tX1_leads 31 rfl) (pu_o (ne_f hc.ct fq5) hc.ct) rfl ?_
          refine J_callI (rest := [.ref q5, .ref (T 3)]) X (dt tX1_leads 32 rfl) (c_Linit l D _ (σ.1 0 39) (σ.1 0 0) (pu_s _ _ _)) (lw_meth q620) q96 q618 q619 rfl okX6_init rfl ⟨Nat.le_of_ble_eq_true rfl, Nat.le_of_ble_eq_true rfl⟩ rfl (Nat.le_of_ble_eq_true rfl) (Nat.le_of_ble_eq_true rfl) (Nat.le_of_ble_eq_true rfl) (fun v9 h9 hp9 => ?_)
          obtain ⟨rfl, e9⟩ := hp9
          rw [e9]
          refine J_heap (h2 := pu h q5 (eo 11 [.int (σ.1 0 39), .int (σ.1 0 0)])) (pu_pu _ _ _ _) ?_
          show J Γ (pu h q5 (eo 11 [.int (σ.1 0 39), .int (σ.1 0 0)])) 1 2 67 [(0, .ref t), (2, .int (σ.1 0 39)), (3, .int (m_leaderBefore σ n))] [.ref q5, .ref (T 3)]
          refine J_callVR (rest := []) X (T := TJ4) (dt tX1_leads 33 rfl) (c_LLfst l D _ (x := q5) (LLf.pu hl (hl.nofp fq5))) (lw_V q632 q633 q634 q75 q635) okJ4_addFirst rfl (Or.inl (pu_o (ne_f hl.1 fq5) hl.1)) rfl ⟨Nat.le_of_ble_eq_true rfl, Nat.le_of_ble_eq_true rfl⟩ rfl (Nat.le_of_ble_eq_true rfl) (Nat.le_of_ble_eq_true rfl) (Nat.le_of_ble_eq_true rfl) (fun v9 g6 hp9 => ?_)
          obtain ⟨rfl, q7, fq7, hlq7, hfq7⟩ := hp9
          show J Γ g6 2 5 70 [(0, .ref t), (2, .int (σ.1 0 39)), (3, .int (m_leaderBefore σ n))] []
          refine J_aload_n X (dt tX1_leads 34 rfl) 0 rfl ?_
          refine J_dup X (dt tX1_leads 35 rfl) rfl ?_
          refine g_X1_85_1 X (dt tX1_leads 36 rfl) ((hfq7.kept (LLf.pu hl (hl.nofp fq5)) kBody rfl rfl) _ _ (pu_o (ne_f hc.ct fq5) hc.ct) rfl) rfl ?_
          refine J_iconst X (nI 1) (dt tX1_leads 37 rfl) (by decide) ?_
          refine J_iadd X (dt tX1_leads 38 rfl) ?_
          refine p_X1_85_1 X (fs2 := [.ref (T 0), .ref (T 1), .ref (T 3), .int (σ.1 0 0), .int ((σ.1 0 85) + (nI 1))]) (dt tX1_leads 39 rfl) ((hfq7.kept (LLf.pu hl (hl.nofp fq5)) kBody rfl rfl) _ _ (pu_o (ne_f hc.ct fq5) hc.ct) rfl) rfl rfl rfl rfl ?_
          refine J_aload_n X (dt tX1_leads 40 rfl) 0 rfl ?_
          refine g_X1_27_1 X (dt tX1_leads 41 rfl) (pu_s _ _ _) rfl ?_
          refine J_callVR (rest := []) X (T := TJ4) (dt tX1_leads 42 rfl) (c_LLsize l D _ (a := T 3) (n := n + 1) (md := md + nI 1) (f := lfst (n + 1) (cnN nd q7)) (z := llst (n + 1) (cnN nd q7)) (pu_o (ne_c hlq7.1 ((hfq7.kept (LLf.pu hl (hl.nofp fq5)) kBody rfl rfl) _ _ (pu_o (ne_f hc.ct fq5) hc.ct) rfl) (by decide)) hlq7.1)) (lw_V q661 q610 q2130 q75 q611) okJ4_size rfl (Or.inl (pu_o (ne_c hlq7.1 ((hfq7.kept (LLf.pu hl (hl.nofp fq5)) kBody rfl rfl) _ _ (pu_o (ne_f hc.ct fq5) hc.ct) rfl) (by decide)) hlq7.1)) rfl ⟨Nat.le_of_ble_eq_true rfl, Nat.le_of_ble_eq_true rfl⟩ rfl (Nat.le_of_ble_eq_true rfl) (Nat.le_of_ble_eq_true rfl) (Nat.le_of_ble_eq_true rfl) (fun v9 h9 hp9 => ?_)
          obtain ⟨rfl, e9⟩ := hp9
          rw [e9]
          show J Γ (pu g6 t (eo 1 [.ref (T 0), .ref (T 1), .ref (T 3), .int (σ.1 0 0), .int ((σ.1 0 85) + (nI 1))])) 2 5 87 [(0, .ref t), (2, .int (σ.1 0 39)), (3, .int (m_leaderBefore σ n))] [.int (nI (n + 1))]
          refine J_bipush X (nI 8) (dt tX1_leads 43 rfl) (by decide) ?_
          refine J_icmp_le X 100 (dt tX1_leads 44 rfl) (by decide) (fun _ => ?_) (fun c9 => absurd (nI_le (by omega) (by omega)) c9)
          exact J_vret X rr (dt tX1_leads 49 rfl) (Nat.le_of_ble_eq_true rfl) (Nat.le_of_ble_eq_true rfl) ⟨rfl, by rw [hk, m_putsT, if_neg (show ¬ m_leaderNow σ = m_leaderBefore σ n from c9a)]; exact TK.lead7 hc hp hl (by omega) hit bd bn fq5 rfl fq7 hlq7 hfq7⟩
    by_cases hz : n = 0
    · rw [show m_leaderBefore σ n = -1 from if_pos hz] at key2
      refine J_aload_n X (dt tX1_leads 10 rfl) 0 rfl ?_
      refine g_X1_27_1 X (dt tX1_leads 11 rfl) hc.ct rfl ?_
      refine J_callU (na := 0) (rest := []) X (T := TJ4) (C := RJ4) (x := ⟨"java/util/LinkedList", "isEmpty", "()Z"⟩) (owner := "java/util/AbstractCollection") (dt tX1_leads 12 rfl) (c_LLisE l D _ (f := lfst n nd) (z := llst n nd) hl.1) (lw_U q591 q592 q594 q595 q71 q596) rfl (by decide) rfl (Or.inl hl.1) rfl ⟨Nat.le_of_ble_eq_true rfl, Nat.le_of_ble_eq_true rfl⟩ rfl (Nat.le_of_ble_eq_true rfl) (Nat.le_of_ble_eq_true rfl) (Nat.le_of_ble_eq_true rfl) (fun v9 h9 hp9 => ?_)
      obtain ⟨rfl, e9⟩ := hp9
      rw [e9]
      show J Γ h 0 0 25 [(0, .ref t), (2, .int (σ.1 0 39))] [.int (if nI n = 0 then nI 1 else nI 0)]
      refine J_topi (if_pos (by rw [hz]; rfl)) ?_
      refine J_if_eq X 32 (dt tX1_leads 13 rfl) (by decide) (fun c9 => absurd c9 (by decide)) (fun _ => ?_)
      refine J_iconst X (-1) (dt tX1_leads 14 rfl) (by decide) ?_
      refine J_goto X (tgt := 45) (dt tX1_leads 15 rfl) (by decide) ?_
      refine J_istore_n X (lv2 := [(3, .int (-1)), (0, .ref t), (2, .int (σ.1 0 39))]) (dt tX1_leads 21 rfl) rfl rfl rfl ?_
      refine J_sub [1, 2, 0] rfl ?_
      exact key2
    · rw [show m_leaderBefore σ n = σ.1 0 (68 + (n - 1 - 0)) from by rw [m_leaderBefore, if_neg hz, show 68 + n - 1 = 68 + (n - 1 - 0) by omega]] at key2
      refine J_aload_n X (dt tX1_leads 10 rfl) 0 rfl ?_
      refine g_X1_27_1 X (dt tX1_leads 11 rfl) hc.ct rfl ?_
      refine J_callU (na := 0) (rest := []) X (T := TJ4) (C := RJ4) (x := ⟨"java/util/LinkedList", "isEmpty", "()Z"⟩) (owner := "java/util/AbstractCollection") (dt tX1_leads 12 rfl) (c_LLisE l D _ (f := some (nd 0)) (z := some (nd (n - 1))) (hl.z hz)) (lw_U q591 q592 q594 q595 q71 q596) rfl (by decide) rfl (Or.inl (hl.z hz)) rfl ⟨Nat.le_of_ble_eq_true rfl, Nat.le_of_ble_eq_true rfl⟩ rfl (Nat.le_of_ble_eq_true rfl) (Nat.le_of_ble_eq_true rfl) (Nat.le_of_ble_eq_true rfl) (fun v9 h9 hp9 => ?_)
      obtain ⟨rfl, e9⟩ := hp9
      rw [e9]
      show J Γ h 0 0 25 [(0, .ref t), (2, .int (σ.1 0 39))] [.int (if nI n = 0 then nI 1 else nI 0)]
      refine J_topi (if_neg (nI_ne0 (by omega) (by omega))) ?_
      refine J_if_eq X 32 (dt tX1_leads 13 rfl) (by decide) (fun _ => ?_) (fun c9 => absurd (by decide) c9)
      refine J_aload_n X (dt tX1_leads 16 rfl) 0 rfl ?_
      refine g_X1_27_1 X (dt tX1_leads 17 rfl) hc.ct rfl ?_
      refine J_callVR (rest := []) X (T := TJ4) (dt tX1_leads 18 rfl) (c_LLgf l D _ (a := T 3) (n := n) (f := nd 0) (y := it 0) (md := md) (z := some (nd (n - 1))) (nf := lnxt n nd 0) (pf := none) (hl.z hz) (hl.first hz)) (lw_V q612 q613 q614 q75 q615) okJ4_getFirst rfl (Or.inl (hl.z hz)) rfl ⟨Nat.le_of_ble_eq_true rfl, Nat.le_of_ble_eq_true rfl⟩ rfl (Nat.le_of_ble_eq_true rfl) (Nat.le_of_ble_eq_true rfl) (Nat.le_of_ble_eq_true rfl) (fun v9 h9 hp9 => ?_)
      obtain ⟨rfl, e9⟩ := hp9
      rw [e9]
      show J Γ h 0 0 39 [(0, .ref t), (2, .int (σ.1 0 39))] [.ref (it 0)]
      refine J_castS X (C := RX6) (T := TX6) (dt tX1_leads 19 rfl) (Or.inl (hit 0 (by omega))) rfl q616 ?_
      refine g_X1_117_11 X (dt tX1_leads 20 rfl) (hit 0 (by omega)) rfl ?_
      refine J_istore_n X (lv2 := [(3, .int (σ.1 0 (68 + (n - 1 - 0)))), (0, .ref t), (2, .int (σ.1 0 39))]) (dt tX1_leads 21 rfl) rfl rfl rfl ?_
      refine J_sub [1, 2, 0] rfl ?_
      exact key2
  rcases TK.leader hc hp h6 with ⟨c1, c2⟩ | ⟨j, qj, hj, e39, hru, c1, hq⟩
  · rw [c2] at key
    refine J_aload_n X (dt tX1_leads 0 rfl) 0 rfl ?_
    refine J_callVR (rest := []) X (T := TX1) (dt tX1_leads 1 rfl) (c_Tleader l D _ hc) (lw_V q587 q588 q589 q70 q590) okX1_leader rfl (Or.inl hc.ct) rfl ⟨Nat.le_of_ble_eq_true rfl, Nat.le_of_ble_eq_true rfl⟩ rfl (Nat.le_of_ble_eq_true rfl) (Nat.le_of_ble_eq_true rfl) (Nat.le_of_ble_eq_true rfl) (fun v9 h9 hp9 => ?_)
    obtain ⟨rfl, e9⟩ := hp9
    rw [e9]
    show J Γ h 0 0 4 [(0, .ref t)] [va_rf (wn 6)]
    refine J_topq (congrArg va_rf c1) ?_
    refine J_astore_nN X (lv2 := [(1, .null), (0, .ref t)]) (dt tX1_leads 2 rfl) rfl rfl rfl ?_
    refine J_aload_nN X (dt tX1_leads 3 rfl) 0 rfl ?_
    refine J_ifnonnull X none 13 (dt tX1_leads 4 rfl) (by decide) (fun _ c9 => by cases c9) (fun _ => ?_)
    refine J_iconst X (-1) (dt tX1_leads 5 rfl) (by decide) ?_
    refine J_goto X (tgt := 17) (dt tX1_leads 6 rfl) (by decide) ?_
    refine J_istore_n X (lv2 := [(2, .int (-1)), (1, .null), (0, .ref t)]) (dt tX1_leads 9 rfl) rfl rfl rfl ?_
    refine J_sub [2, 0] rfl ?_
    exact key
  · refine J_aload_n X (dt tX1_leads 0 rfl) 0 rfl ?_
    refine J_callVR (rest := []) X (T := TX1) (dt tX1_leads 1 rfl) (c_Tleader l D _ hc) (lw_V q587 q588 q589 q70 q590) okX1_leader rfl (Or.inl hc.ct) rfl ⟨Nat.le_of_ble_eq_true rfl, Nat.le_of_ble_eq_true rfl⟩ rfl (Nat.le_of_ble_eq_true rfl) (Nat.le_of_ble_eq_true rfl) (Nat.le_of_ble_eq_true rfl) (fun v9 h9 hp9 => ?_)
    obtain ⟨rfl, e9⟩ := hp9
    rw [e9]
    show J Γ h 0 0 4 [(0, .ref t)] [va_rf (wn 6)]
    refine J_topq (rf_s c1) ?_
    refine J_astore_n X (lv2 := [(1, .ref qj), (0, .ref t)]) (dt tX1_leads 2 rfl) rfl rfl rfl ?_
    refine J_aload_n X (dt tX1_leads 3 rfl) 0 rfl ?_
    refine J_ifnonnull X (some qj) 13 (dt tX1_leads 4 rfl) (by decide) (fun _ _ => ?_) (fun c9 => by cases c9)
    refine J_aload_n X (dt tX1_leads 7 rfl) 0 rfl ?_
    refine g_X1_38_10 X (dt tX1_leads 8 rfl) hq rfl ?_
    refine J_istore_n X (lv2 := [(2, .int (σ.1 0 39)), (1, .ref qj), (0, .ref t)]) (dt tX1_leads 9 rfl) rfl rfl rfl ?_
    refine J_sub [2, 0] rfl ?_
    exact key
