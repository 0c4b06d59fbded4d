/-! printed by gen/compw.py -/
set_option maxRecDepth 100000
theorem q69 : (Jvm.Cond.initialized "LeadRaces") ∈ lw_all := lw_g (lw_at lw_m1 1 rfl) rfl
theorem q380 : (Jvm.Cond.methodLink "LeadRaces$Track" (137 : Nat) ({ cls := "LeadRaces$Track", name := "in", desc := "(I)LLeadRaces$Runner;" } : Jvm.MethodName)) ∈ lw_all := lw_g (lw_at lw_m2 72 rfl) rfl
theorem q381 : (Jvm.Cond.instanceMethod ({ cls := "LeadRaces$Track", name := "in", desc := "(I)LLeadRaces$Runner;" } : Jvm.MethodName)) ∈ lw_all := lw_g (lw_at lw_m2 73 rfl) rfl
theorem q382 : (Jvm.Cond.selects "LeadRaces$Track" ({ cls := "LeadRaces$Track", name := "in", desc := "(I)LLeadRaces$Runner;" } : Jvm.MethodName) ({ cls := "LeadRaces$Track", name := "in", desc := "(I)LLeadRaces$Runner;" } : Jvm.MethodName)) ∈ lw_all := lw_g (lw_at lw_m2 74 rfl) rfl
theorem q383 : (Jvm.Cond.codeWith ({ cls := "LeadRaces$Track", name := "in", desc := "(I)LLeadRaces$Runner;" } : Jvm.MethodName) prog_10_method_5_code (3 : Nat) (Option.some (Jvm.ClassFile.FieldType.object "LeadRaces$Runner")) [((0 : Nat), (6 : Nat), (7 : Nat), (88 : Nat))]) ∈ lw_all := lw_g (lw_at lw_m2 75 rfl) rfl
theorem q487 : (Jvm.Cond.methodLinkNest "LeadRaces$Track" (141 : Nat) ({ cls := "LeadRaces", name := "inRange", desc := "(III)Z" } : Jvm.MethodName) "LeadRaces") ∈ lw_tbl := lw_at lw_m2 179 rfl
theorem q488 : (Jvm.Cond.static ({ cls := "LeadRaces", name := "inRange", desc := "(III)Z" } : Jvm.MethodName)) ∈ lw_all := lw_g (lw_at lw_m2 180 rfl) rfl
theorem q489 : (Jvm.Cond.code ({ cls := "LeadRaces", name := "inRange", desc := "(III)Z" } : Jvm.MethodName) prog_1_method_1_code (3 : Nat) (Option.some Jvm.ClassFile.FieldType.boolean)) ∈ lw_all := lw_g (lw_at lw_m2 181 rfl) rfl
theorem q490 : (Jvm.Cond.methodLinkNest "LeadRaces$Track" (145 : Nat) ({ cls := "LeadRaces", name := "want", desc := "(ZI)V" } : Jvm.MethodName) "LeadRaces") ∈ lw_tbl := lw_at lw_m2 182 rfl
theorem q491 : (Jvm.Cond.static ({ cls := "LeadRaces", name := "want", desc := "(ZI)V" } : Jvm.MethodName)) ∈ lw_all := lw_g (lw_at lw_m2 183 rfl) rfl
theorem q492 : (Jvm.Cond.code ({ cls := "LeadRaces", name := "want", desc := "(ZI)V" } : Jvm.MethodName) prog_1_method_2_code (2 : Nat) (Option.none : Option Jvm.ClassFile.FieldType)) ∈ lw_all := lw_g (lw_at lw_m2 184 rfl) rfl
theorem q498 : (Jvm.Cond.constant "LeadRaces$Track" (149 : Nat) (-10000002 : Int32)) ∈ lw_all := lw_g (lw_at lw_m2 190 rfl) rfl
theorem q500 : (Jvm.Cond.methodLink "LeadRaces$Track" (150 : Nat) ({ cls := "LeadRaces$Runner", name := "<init>", desc := "(III)V" } : Jvm.MethodName)) ∈ lw_all := lw_g (lw_at lw_m2 192 rfl) rfl
theorem q524 : (Jvm.Cond.methodLink "LeadRaces$Track" (153 : Nat) ({ cls := "LeadRaces$Track", name := "runsFrom", desc := "(I)V" } : Jvm.MethodName)) ∈ lw_all := lw_g (lw_at lw_m2 216 rfl) rfl
theorem q526 : (Jvm.Cond.instanceMethod ({ cls := "LeadRaces$Track", name := "runsFrom", desc := "(I)V" } : Jvm.MethodName)) ∈ lw_all := lw_g (lw_at lw_m2 218 rfl) rfl
theorem q527 : (Jvm.Cond.code ({ cls := "LeadRaces$Track", name := "runsFrom", desc := "(I)V" } : Jvm.MethodName) prog_10_method_10_code (2 : Nat) (Option.none : Option Jvm.ClassFile.FieldType)) ∈ lw_all := lw_g (lw_at lw_m2 219 rfl) rfl
theorem q670 : (Jvm.Cond.methodLink "LeadRaces$Track" (157 : Nat) ({ cls := "LeadRaces$Track", name := "laneOf", desc := "(LLeadRaces$Runner;)I" } : Jvm.MethodName)) ∈ lw_all := lw_g (lw_at lw_m3 122 rfl) rfl
theorem q671 : (Jvm.Cond.static ({ cls := "LeadRaces$Track", name := "laneOf", desc := "(LLeadRaces$Runner;)I" } : Jvm.MethodName)) ∈ lw_all := lw_g (lw_at lw_m3 123 rfl) rfl
theorem q672 : (Jvm.Cond.code ({ cls := "LeadRaces$Track", name := "laneOf", desc := "(LLeadRaces$Runner;)I" } : Jvm.MethodName) prog_10_method_11_code (1 : Nat) (Option.some Jvm.ClassFile.FieldType.int)) ∈ lw_all := lw_g (lw_at lw_m3 124 rfl) rfl
theorem q1146 : (Jvm.Cond.methodLink "LeadRaces$Track" (161 : Nat) ({ cls := "LeadRaces$Track", name := "many", desc := "()I" } : Jvm.MethodName)) ∈ lw_all := lw_g (lw_at lw_m5 118 rfl) rfl
theorem q1147 : (Jvm.Cond.instanceMethod ({ cls := "LeadRaces$Track", name := "many", desc := "()I" } : Jvm.MethodName)) ∈ lw_all := lw_g (lw_at lw_m5 119 rfl) rfl
theorem q1148 : (Jvm.Cond.selects "LeadRaces$Track" ({ cls := "LeadRaces$Track", name := "many", desc := "()I" } : Jvm.MethodName) ({ cls := "LeadRaces$Track", name := "many", desc := "()I" } : Jvm.MethodName)) ∈ lw_all := lw_g (lw_at lw_m5 120 rfl) rfl
theorem q1149 : (Jvm.Cond.code ({ cls := "LeadRaces$Track", name := "many", desc := "()I" } : Jvm.MethodName) prog_10_method_12_code (6 : Nat) (Option.some Jvm.ClassFile.FieldType.int)) ∈ lw_all := lw_g (lw_at lw_m5 121 rfl) rfl
theorem q1170 : (Jvm.Cond.constant "LeadRaces$Track" (170 : Nat) (-1000000 : Int32)) ∈ lw_all := lw_g (lw_at lw_m5 142 rfl) rfl
theorem q1171 : (Jvm.Cond.constant "LeadRaces$Track" (171 : Nat) (1000000 : Int32)) ∈ lw_all := lw_g (lw_at lw_m5 143 rfl) rfl
theorem q1172 : (Jvm.Cond.constant "LeadRaces$Track" (172 : Nat) (-10000003 : Int32)) ∈ lw_all := lw_g (lw_at lw_m5 144 rfl) rfl
section
variable {l : Launch} {D : va_G} {cc : ByteArray} {nL : Nat} {rm : Room} {Γ : Cxt} {h : PH} {k n pc nx : Nat} {lv : List (Nat × Value)} {st : List Value}
theorem n_X1_9 (X : Cx l D cc RX1 nL rm Γ) (d : At cc pc (.new 9) 3 nx) (hk : k + 1 ≤ rm.cells) (hn : n + 4 ≤ rm.slots) (kk : ∀ q, h q = none → J Γ (pu h q (eo 10 [.int (nI 0), .int (nI 0), .int (nI 0), .int (nI 0)])) (k + 1) (n + 4) nx lv (.ref q :: st)) : J Γ h k n pc lv st := J_new X (tf := tyX5) d (show vwCl[10]? = some (RX5, TX5, 4) from rfl) in_X5 tyX5_ok q126 q499 q93 (by decide) hk hn kk
theorem p_X1_164_10 (X : Cx l D cc RX1 nL rm Γ) {a : Nat} {fs fs2 : List Value} {v : Value} (d : At cc pc (.putfield 164) 3 nx) (ha : h a = some (eo 10 fs)) (hn : narrow (.int) v = v) (hfit : fits (.int) v = true) (hl2 : Nat.ble (2 + 1) fs.length = true) (hfs : fs.set 2 v = fs2) (kk : J Γ (pu h a (eo 10 fs2)) k n nx lv st) : J Γ h k n pc lv (v :: .ref a :: st) := J_putN X (kf := 2) (tf := tyX5) d ha (show vwCl[10]? = some (RX5, TX5, 4) from rfl) in_X5 tyX5_ok nmX5 rfl q511 rfl rfl rfl hn hfit hl2 hfs kk
end
abbrev cX1_comes : ByteArray := prog_10_method_13_code
def yX1_comes : MethodName := ⟨RX1, "comes", "(III)I"⟩
theorem tX1_comes : dtab cX1_comes [(0, .aload_n 0, 1, 1), (1, .iload_n 1, 1, 2), (2, .invokevirtual 137, 3, 5), (5, .astore 4, 2, 7), (7, .iload_n 2, 1, 8), (8, .sipush (-9999), 3, 11), (11, .sipush 9999, 3, 14), (14, .invokestatic 141, 3, 17), (17, .ifCond .eq 18, 3, 20), (20, .iload_n 3, 1, 21), (21, .bipush (-99), 2, 23), (23, .bipush 99, 2, 25), (25, .invokestatic 141, 3, 28), (28, .ifCond .eq 7, 3, 31), (31, .iconst 1, 1, 32), (32, .goto 4, 3, 35), (35, .iconst 0, 1, 36), (36, .ldc 92, 2, 38), (38, .invokestatic 145, 3, 41), (41, .aload 4, 2, 43), (43, .ifnonnull 7, 3, 46), (46, .iconst 1, 1, 47), (47, .goto 4, 3, 50), (50, .iconst 0, 1, 51), (51, .ldc 149, 2, 53), (53, .invokestatic 145, 3, 56), (56, .aload_n 0, 1, 57), (57, .getfield 11, 3, 60), (60, .iload_n 1, 1, 61), (61, .new 9, 3, 64), (64, .dup, 1, 65), (65, .iload_n 1, 1, 66), (66, .iload_n 2, 1, 67), (67, .iload_n 3, 1, 68), (68, .invokespecial 150, 3, 71), (71, .aastore, 1, 72), (72, .aload_n 0, 1, 73), (73, .iload_n 1, 1, 74), (74, .invokevirtual 153, 3, 77), (77, .aload_n 0, 1, 78), (78, .invokevirtual 108, 3, 81), (81, .invokestatic 157, 3, 84), (84, .ireturn, 1, 85)] := by unfold dtab; decide +kernel
theorem okX1_comes : okY yX1_comes 3 := by decide +kernel
set_option maxHeartbeats 4000000 in
theorem c_Tcomes (l : Launch) (D : va_G) (h : PH) {b : PH} {t : Nat} {σ : MS} {x p s : Int32}  (hl9 : l.stackTraces = false) (HQ : TQ b h t (σ.1 0)) : Cq l D yX1_comes (ws_ yX1_comes cX1_comes 5 (some .int)) (rmC 9 10262 7 249) [.ref t, .int x, .int p, .int s] h (fun v h9 => v = some (.int (m_come σ x p s).1) ∧ -10000001 < (m_come σ x p s).1 ∧ TQ b h9 t ((m_come σ x p s).2.1 0)) (Rfd b (m_come σ x p s).1) := by
  refine Cq.of (by decide) rfl (fun Γ X rr hmn htb hrx => ?_)
  have X : Cx l D cX1_comes RX1 5 (rmC 9 10262 7 249) Γ := X
  show J Γ h 0 0 0 [(0, .ref t), (1, .int x), (2, .int p), (3, .int s)] []
  obtain ⟨T, rc, ru, H⟩ := HQ
  rcases ln_cases x with ⟨j, hj, rfl⟩ | hx
  · show J Γ h 0 0 0 [(0, .ref t), (1, .int (nI j)), (2, .int p), (3, .int s)] []
    cases hr : ru j with
    | none =>
      have hs := has_n (σ := σ) rfl H.hh hj hr
      by_cases c1 : k_inR p (-9999) (nI 9999) = 0
      · refine J_aload_n X (dt tX1_comes 0 rfl) 0 rfl ?_
        refine J_iload_n X (dt tX1_comes 1 rfl) 1 rfl ?_
        refine J_callVW (rest := []) X (T := TX1) (dt tX1_comes 2 rfl) (c_TinY l D _ H.ct H.ln hj) (lw_VW q380 q381 q382 q70 q383) okX1_in rfl (Or.inl H.ct) rfl ⟨Nat.le_of_ble_eq_true rfl, Nat.le_of_ble_eq_true rfl⟩ rfl (Nat.le_of_ble_eq_true rfl) (Nat.le_of_ble_eq_true rfl) (Nat.le_of_ble_eq_true rfl) (fun v9 h9 hp9 => ?_) (fun _ _ _ z => z.elim)
        obtain ⟨rfl, e9⟩ := hp9
        rw [e9]
        show J Γ h 4 240 5 [(0, .ref t), (1, .int (nI j)), (2, .int p), (3, .int s)] [va_rf (ru j)]
        refine J_topq (congrArg va_rf hr) ?_
        refine J_astoreN X (lv2 := [(4, .null), (0, .ref t), (1, .int (nI j)), (2, .int p), (3, .int s)]) (dt tX1_comes 3 rfl) rfl rfl ?_
        refine J_iload_n X (dt tX1_comes 4 rfl) 3 rfl ?_
        refine J_sipush X (-9999) (dt tX1_comes 5 rfl) (by decide) ?_
        refine J_sipush X (nI 9999) (dt tX1_comes 6 rfl) (by decide) ?_
        refine J_callSN (rest := []) X (dt tX1_comes 7 rfl) (c_inR l D _ p (-9999) (nI 9999)) (lw_meth q489) q69 q487 q488 okX0_inRange rfl ⟨Nat.le_of_ble_eq_true rfl, Nat.le_of_ble_eq_true rfl⟩ rfl (Nat.le_of_ble_eq_true rfl) (Nat.le_of_ble_eq_true rfl) (Nat.le_of_ble_eq_true rfl) (fun v9 h9 hp9 => ?_)
        obtain ⟨rfl, e9⟩ := hp9
        rw [e9]
        show J Γ h 4 240 17 [(4, .null), (0, .ref t), (1, .int (nI j)), (2, .int p), (3, .int s)] [.int (k_inR p (-9999) (nI 9999))]
        refine J_if_eq X 35 (dt tX1_comes 8 rfl) (by decide) (fun _ => ?_) (fun c9 => absurd (c1) c9)
        refine J_iconst X (nI 0) (dt tX1_comes 16 rfl) (by decide) ?_
        refine J_ldc X (dt tX1_comes 17 rfl) q469 ?_
        refine J_callSNX (rest := []) X (dt tX1_comes 18 rfl) (c_wantF l D _ (x := nI 0) (c := (-10000001)) hl9 rfl) (lw_meth q492) q69 q490 q491 okX0_want rfl ⟨Nat.le_of_ble_eq_true rfl, Nat.le_of_ble_eq_true rfl⟩ rfl (Nat.le_of_ble_eq_true rfl) (Nat.le_of_ble_eq_true rfl) (Nat.le_of_ble_eq_true rfl) (fun _ _ z => z.elim) (fun E9 q9 h9 hx9 => ?_)
        exact JX_out X hrx htb (fun x hx => nomatch hx) (Nat.le_of_ble_eq_true rfl) (Nat.le_of_ble_eq_true rfl) (by rw [show (m_come σ (nI j) p s).1 = (-10000001) from come_1 hj c1]; exact RfX.d hx9 H.ext (by decide))
      · by_cases c2 : k_inR s (-99) (nI 99) = 0
        · refine J_aload_n X (dt tX1_comes 0 rfl) 0 rfl ?_
          refine J_iload_n X (dt tX1_comes 1 rfl) 1 rfl ?_
          refine J_callVW (rest := []) X (T := TX1) (dt tX1_comes 2 rfl) (c_TinY l D _ H.ct H.ln hj) (lw_VW q380 q381 q382 q70 q383) okX1_in rfl (Or.inl H.ct) rfl ⟨Nat.le_of_ble_eq_true rfl, Nat.le_of_ble_eq_true rfl⟩ rfl (Nat.le_of_ble_eq_true rfl) (Nat.le_of_ble_eq_true rfl) (Nat.le_of_ble_eq_true rfl) (fun v9 h9 hp9 => ?_) (fun _ _ _ z => z.elim)
          obtain ⟨rfl, e9⟩ := hp9
          rw [e9]
          show J Γ h 4 240 5 [(0, .ref t), (1, .int (nI j)), (2, .int p), (3, .int s)] [va_rf (ru j)]
          refine J_topq (congrArg va_rf hr) ?_
          refine J_astoreN X (lv2 := [(4, .null), (0, .ref t), (1, .int (nI j)), (2, .int p), (3, .int s)]) (dt tX1_comes 3 rfl) rfl rfl ?_
          refine J_iload_n X (dt tX1_comes 4 rfl) 3 rfl ?_
          refine J_sipush X (-9999) (dt tX1_comes 5 rfl) (by decide) ?_
          refine J_sipush X (nI 9999) (dt tX1_comes 6 rfl) (by decide) ?_
          refine J_callSN (rest := []) X (dt tX1_comes 7 rfl) (c_inR l D _ p (-9999) (nI 9999)) (lw_meth q489) q69 q487 q488 okX0_inRange rfl ⟨Nat.le_of_ble_eq_true rfl, Nat.le_of_ble_eq_true rfl⟩ rfl (Nat.le_of_ble_eq_true rfl) (Nat.le_of_ble_eq_true rfl) (Nat.le_of_ble_eq_true rfl) (fun v9 h9 hp9 => ?_)
          obtain ⟨rfl, e9⟩ := hp9
          rw [e9]
          show J Γ h 4 240 17 [(4, .null), (0, .ref t), (1, .int (nI j)), (2, .int p), (3, .int s)] [.int (k_inR p (-9999) (nI 9999))]
          refine J_if_eq X 35 (dt tX1_comes 8 rfl) (by decide) (fun c9 => absurd c9 (c1)) (fun _ => ?_)
          refine J_iload_n X (dt tX1_comes 9 rfl) 4 rfl ?_
          refine J_bipush X (-99) (dt tX1_comes 10 rfl) (by decide) ?_
          refine J_bipush X (nI 99) (dt tX1_comes 11 rfl) (by decide) ?_
          refine J_callSN (rest := []) X (dt tX1_comes 12 rfl) (c_inR l D _ s (-99) (nI 99)) (lw_meth q489) q69 q487 q488 okX0_inRange rfl ⟨Nat.le_of_ble_eq_true rfl, Nat.le_of_ble_eq_true rfl⟩ rfl (Nat.le_of_ble_eq_true rfl) (Nat.le_of_ble_eq_true rfl) (Nat.le_of_ble_eq_true rfl) (fun v9 h9 hp9 => ?_)
          obtain ⟨rfl, e9⟩ := hp9
          rw [e9]
          show J Γ h 4 240 28 [(4, .null), (0, .ref t), (1, .int (nI j)), (2, .int p), (3, .int s)] [.int (k_inR s (-99) (nI 99))]
          refine J_if_eq X 35 (dt tX1_comes 13 rfl) (by decide) (fun _ => ?_) (fun c9 => absurd (c2) c9)
          refine J_iconst X (nI 0) (dt tX1_comes 16 rfl) (by decide) ?_
          refine J_ldc X (dt tX1_comes 17 rfl) q469 ?_
          refine J_callSNX (rest := []) X (dt tX1_comes 18 rfl) (c_wantF l D _ (x := nI 0) (c := (-10000001)) hl9 rfl) (lw_meth q492) q69 q490 q491 okX0_want rfl ⟨Nat.le_of_ble_eq_true rfl, Nat.le_of_ble_eq_true rfl⟩ rfl (Nat.le_of_ble_eq_true rfl) (Nat.le_of_ble_eq_true rfl) (Nat.le_of_ble_eq_true rfl) (fun _ _ z => z.elim) (fun E9 q9 h9 hx9 => ?_)
          exact JX_out X hrx htb (fun x hx => nomatch hx) (Nat.le_of_ble_eq_true rfl) (Nat.le_of_ble_eq_true rfl) (by rw [show (m_come σ (nI j) p s).1 = (-10000001) from come_2 hj c1 c2]; exact RfX.d hx9 H.ext (by decide))
        · have hm := come_4 (σ := σ) hj c1 c2 hs
          have r1 := k_inR_iff.mp c1
          have r2 := k_inR_iff.mp c2
          refine J_aload_n X (dt tX1_comes 0 rfl) 0 rfl ?_
          refine J_iload_n X (dt tX1_comes 1 rfl) 1 rfl ?_
          refine J_callVW (rest := []) X (T := TX1) (dt tX1_comes 2 rfl) (c_TinY l D _ H.ct H.ln hj) (lw_VW q380 q381 q382 q70 q383) okX1_in rfl (Or.inl H.ct) rfl ⟨Nat.le_of_ble_eq_true rfl, Nat.le_of_ble_eq_true rfl⟩ rfl (Nat.le_of_ble_eq_true rfl) (Nat.le_of_ble_eq_true rfl) (Nat.le_of_ble_eq_true rfl) (fun v9 h9 hp9 => ?_) (fun _ _ _ z => z.elim)
          obtain ⟨rfl, e9⟩ := hp9
          rw [e9]
          show J Γ h 4 240 5 [(0, .ref t), (1, .int (nI j)), (2, .int p), (3, .int s)] [va_rf (ru j)]
          refine J_topq (congrArg va_rf hr) ?_
          refine J_astoreN X (lv2 := [(4, .null), (0, .ref t), (1, .int (nI j)), (2, .int p), (3, .int s)]) (dt tX1_comes 3 rfl) rfl rfl ?_
          refine J_iload_n X (dt tX1_comes 4 rfl) 3 rfl ?_
          refine J_sipush X (-9999) (dt tX1_comes 5 rfl) (by decide) ?_
          refine J_sipush X (nI 9999) (dt tX1_comes 6 rfl) (by decide) ?_
          refine J_callSN (rest := []) X (dt tX1_comes 7 rfl) (c_inR l D _ p (-9999) (nI 9999)) (lw_meth q489) q69 q487 q488 okX0_inRange rfl ⟨Nat.le_of_ble_eq_true rfl, Nat.le_of_ble_eq_true rfl⟩ rfl (Nat.le_of_ble_eq_true rfl) (Nat.le_of_ble_eq_true rfl) (Nat.le_of_ble_eq_true rfl) (fun v9 h9 hp9 => ?_)
          obtain ⟨rfl, e9⟩ := hp9
          rw [e9]
          show J Γ h 4 240 17 [(4, .null), (0, .ref t), (1, .int (nI j)), (2, .int p), (3, .int s)] [.int (k_inR p (-9999) (nI 9999))]
          refine J_if_eq X 35 (dt tX1_comes 8 rfl) (by decide) (fun c9 => absurd c9 (c1)) (fun _ => ?_)
          refine J_iload_n X (dt tX1_comes 9 rfl) 4 rfl ?_
          refine J_bipush X (-99) (dt tX1_comes 10 rfl) (by decide) ?_
          refine J_bipush X (nI 99) (dt tX1_comes 11 rfl) (by decide) ?_
          refine J_callSN (rest := []) X (dt tX1_comes 12 rfl) (c_inR l D _ s (-99) (nI 99)) (lw_meth q489) q69 q487 q488 okX0_inRange rfl ⟨Nat.le_of_ble_eq_true rfl, Nat.le_of_ble_eq_true rfl⟩ rfl (Nat.le_of_ble_eq_true rfl) (Nat.le_of_ble_eq_true rfl) (Nat.le_of_ble_eq_true rfl) (fun v9 h9 hp9 => ?_)
          obtain ⟨rfl, e9⟩ := hp9
          rw [e9]
          show J Γ h 4 240 28 [(4, .null), (0, .ref t), (1, .int (nI j)), (2, .int p), (3, .int s)] [.int (k_inR s (-99) (nI 99))]
          refine J_if_eq X 35 (dt tX1_comes 13 rfl) (by decide) (fun c9 => absurd c9 (c2)) (fun _ => ?_)
          refine J_iconst X (nI 1) (dt tX1_comes 14 rfl) (by decide) ?_
          refine J_goto X (tgt := 36) (dt tX1_comes 15 rfl) (by decide) ?_
          refine J_ldc X (dt tX1_comes 17 rfl) q469 ?_
          refine J_callSN (rest := []) X (dt tX1_comes 18 rfl) (c_wantT l D _ (x := nI 1) (c := (-10000001)) (by decide)) (lw_meth q492) q69 q490 q491 okX0_want rfl ⟨Nat.le_of_ble_eq_true rfl, Nat.le_of_ble_eq_true rfl⟩ rfl (Nat.le_of_ble_eq_true rfl) (Nat.le_of_ble_eq_true rfl) (Nat.le_of_ble_eq_true rfl) (fun v9 h9 hp9 => ?_)
          obtain ⟨rfl, e9⟩ := hp9
          rw [e9]
          show J Γ h 4 240 41 [(4, .null), (0, .ref t), (1, .int (nI j)), (2, .int p), (3, .int s)] []
          refine J_aloadN X (dt tX1_comes 19 rfl) 0 rfl ?_
          refine J_ifnonnull X none 50 (dt tX1_comes 20 rfl) (by decide) (fun _ c9 => by cases c9) (fun _ => ?_)
          refine J_iconst X (nI 1) (dt tX1_comes 21 rfl) (by decide) ?_
          refine J_goto X (tgt := 51) (dt tX1_comes 22 rfl) (by decide) ?_
          refine J_ldc X (dt tX1_comes 24 rfl) q498 ?_
          refine J_callSN (rest := []) X (dt tX1_comes 25 rfl) (c_wantT l D _ (x := nI 1) (c := (-10000002)) (by decide)) (lw_meth q492) q69 q490 q491 okX0_want rfl ⟨Nat.le_of_ble_eq_true rfl, Nat.le_of_ble_eq_true rfl⟩ rfl (Nat.le_of_ble_eq_true rfl) (Nat.le_of_ble_eq_true rfl) (Nat.le_of_ble_eq_true rfl) (fun v9 h9 hp9 => ?_)
          obtain ⟨rfl, e9⟩ := hp9
          rw [e9]
          show J Γ h 4 240 56 [(4, .null), (0, .ref t), (1, .int (nI j)), (2, .int p), (3, .int s)] []
          refine J_aload_n X (dt tX1_comes 26 rfl) 1 rfl ?_
          refine g_X1_11_1 X (dt tX1_comes 27 rfl) H.ct rfl ?_
          refine J_iload_n X (dt tX1_comes 28 rfl) 2 rfl ?_
          refine n_X1_9 X (dt tX1_comes 29 rfl) (Nat.le_of_ble_eq_true rfl) (Nat.le_of_ble_eq_true rfl) (fun q1 fq1 => ?_)
          refine J_dup X (dt tX1_comes 30 rfl) rfl ?_
          refine J_iload_n X (dt tX1_comes 31 rfl) 2 rfl ?_
          refine J_iload_n X (dt tX1_comes 32 rfl) 3 rfl ?_
          refine J_iload_n X (dt tX1_comes 33 rfl) 4 rfl ?_
          refine J_callI (rest := [.ref q1, .int (nI j), .ref (T 0)]) X (dt tX1_comes 34 rfl) (c_Rinit l D _ (nI j) p s (pu_s _ _ _)) (lw_meth q502) q93 q500 q501 rfl okX5_init rfl ⟨Nat.le_of_ble_eq_true rfl, Nat.le_of_ble_eq_true rfl⟩ rfl (Nat.le_of_ble_eq_true rfl) (Nat.le_of_ble_eq_true rfl) (Nat.le_of_ble_eq_true rfl) (fun v9 h9 hp9 => ?_)
          obtain ⟨rfl, e9⟩ := hp9
          rw [e9]
          refine J_heap (h2 := pu h q1 (eo 10 [.int (nI j), .int p, .int s, .int (nI 0)])) (pu_pu _ _ _ _) ?_
          show J Γ (pu h q1 (eo 10 [.int (nI j), .int p, .int s, .int (nI 0)])) 5 244 71 [(4, .null), (0, .ref t), (1, .int (nI j)), (2, .int p), (3, .int s)] [.ref q1, .int (nI j), .ref (T 0)]
          refine J_rast X (dt tX1_comes 35 rfl) (pu_o (ne_f H.ln fq1) H.ln) (pu_s _ _ _) (by omega) (by decide) ?_
          refine J_aload_n X (dt tX1_comes 36 rfl) 1 rfl ?_
          refine J_iload_n X (dt tX1_comes 37 rfl) 2 rfl ?_
          have HC : TK b (pu (pu h q1 (eo 10 [.int (nI j), .int p, .int s, .int (nI 0)])) (T 0) (eR 8 (va_up ru j (some q1)))) t T rc (va_up ru j (some q1)) (fun i => i ≠ j / 2 ∧ i ≠ 4 + j / 4 ∧ i ≠ 6) ((sA σ 0 (m_comeA (σ.1 0) j p s)).1 0) := TK.come H hj hr fq1 r1 r2
          refine J_callVR (rest := []) X (T := TX1) (dt tX1_comes 38 rfl) (c_Tfrom l D _ (σ := sA σ 0 (m_comeA (σ.1 0) j p s)) (j := j) HC hj) (lw_V q524 q526 qs4 q70 q527) okX1_runsFrom rfl (Or.inl (pu_o (ne_oa H.ct H.ln) (pu_o (ne_f H.ct fq1) H.ct))) rfl ⟨Nat.le_of_ble_eq_true rfl, Nat.le_of_ble_eq_true rfl⟩ rfl (Nat.le_of_ble_eq_true rfl) (Nat.le_of_ble_eq_true rfl) (Nat.le_of_ble_eq_true rfl) (fun v9 g2 hp9 => ?_)
          obtain ⟨rfl, H2⟩ := hp9
          show J Γ g2 7 249 77 [(4, .null), (0, .ref t), (1, .int (nI j)), (2, .int p), (3, .int s)] []
          have hne : ¬ (m_forT (sA σ 0 (m_comeA (σ.1 0) j p s)) j).1 0 39 = -1 := led_ne (σ := sA σ 0 (m_comeA (σ.1 0) j p s)) (HC).wf hj (has_s (σ := sA σ 0 (m_comeA (σ.1 0) j p s)) rfl (HC).hh hj va_up_s)
          obtain ⟨wn2, ot2, un2, hc2, hl2, hp2⟩ := H2
          have H2 : TK b g2 t T rc (va_up ru j (some q1)) Al ((m_forT (sA σ 0 (m_comeA (σ.1 0) j p s)) j).1 0) := ⟨wn2, ot2, un2, hc2, hl2, hp2⟩
          rcases TK.leader hc2 hp2 trivial with ⟨c1, c2⟩ | ⟨i, qi, hi, ei, hru, c1, hq⟩
          · exact absurd c2 hne
          · refine J_aload_n X (dt tX1_comes 39 rfl) 1 rfl ?_
            refine J_callVR (rest := []) X (T := TX1) (dt tX1_comes 40 rfl) (c_Tleader l D _ hc2) (lw_V q587 q588 q589 q70 q590) okX1_leader rfl (Or.inl hc2.ct) rfl ⟨Nat.le_of_ble_eq_true rfl, Nat.le_of_ble_eq_true rfl⟩ rfl (Nat.le_of_ble_eq_true rfl) (Nat.le_of_ble_eq_true rfl) (Nat.le_of_ble_eq_true rfl) (fun v9 h9 hp9 => ?_)
            obtain ⟨rfl, e9⟩ := hp9
            rw [e9]
            show J Γ g2 7 249 81 [(4, .null), (0, .ref t), (1, .int (nI j)), (2, .int p), (3, .int s)] [va_rf (wn2 6)]
            refine J_topq (rf_s c1) ?_
            refine J_callS (rest := []) X (dt tX1_comes 41 rfl) (c_laneR l D _ hq) (lw_S q670 q671 q70 q672) okX1_laneOf rfl ⟨Nat.le_of_ble_eq_true rfl, Nat.le_of_ble_eq_true rfl⟩ rfl (Nat.le_of_ble_eq_true rfl) (Nat.le_of_ble_eq_true rfl) (Nat.le_of_ble_eq_true rfl) (fun v9 h9 hp9 => ?_)
            obtain ⟨rfl, e9⟩ := hp9
            rw [e9]
            show J Γ g2 7 249 84 [(4, .null), (0, .ref t), (1, .int (nI j)), (2, .int p), (3, .int s)] [.int ((m_forT (sA σ 0 (m_comeA (σ.1 0) j p s)) j).1 0 39)]
            exact J_iret X rr (dt tX1_comes 42 rfl) (Nat.le_of_ble_eq_true rfl) (Nat.le_of_ble_eq_true rfl) (by rw [hm]; exact ⟨rfl, (show -10000001 < (m_forT (sA σ 0 (m_comeA (σ.1 0) j p s)) j).1 0 39 from by rw [ei]; exact gt_nI (by omega)), T, rc, _, H2⟩)
    | some q =>
      have hs := has_s (σ := σ) rfl H.hh hj hr
      by_cases c1 : k_inR p (-9999) (nI 9999) = 0
      · refine J_aload_n X (dt tX1_comes 0 rfl) 0 rfl ?_
        refine J_iload_n X (dt tX1_comes 1 rfl) 1 rfl ?_
        refine J_callVW (rest := []) X (T := TX1) (dt tX1_comes 2 rfl) (c_TinY l D _ H.ct H.ln hj) (lw_VW q380 q381 q382 q70 q383) okX1_in rfl (Or.inl H.ct) rfl ⟨Nat.le_of_ble_eq_true rfl, Nat.le_of_ble_eq_true rfl⟩ rfl (Nat.le_of_ble_eq_true rfl) (Nat.le_of_ble_eq_true rfl) (Nat.le_of_ble_eq_true rfl) (fun v9 h9 hp9 => ?_) (fun _ _ _ z => z.elim)
        obtain ⟨rfl, e9⟩ := hp9
        rw [e9]
        show J Γ h 4 240 5 [(0, .ref t), (1, .int (nI j)), (2, .int p), (3, .int s)] [va_rf (ru j)]
        refine J_topq (rf_s hr) ?_
        refine J_astore X (lv2 := [(4, .ref q), (0, .ref t), (1, .int (nI j)), (2, .int p), (3, .int s)]) (dt tX1_comes 3 rfl) rfl rfl ?_
        refine J_iload_n X (dt tX1_comes 4 rfl) 3 rfl ?_
        refine J_sipush X (-9999) (dt tX1_comes 5 rfl) (by decide) ?_
        refine J_sipush X (nI 9999) (dt tX1_comes 6 rfl) (by decide) ?_
        refine J_callSN (rest := []) X (dt tX1_comes 7 rfl) (c_inR l D _ p (-9999) (nI 9999)) (lw_meth q489) q69 q487 q488 okX0_inRange rfl ⟨Nat.le_of_ble_eq_true rfl, Nat.le_of_ble_eq_true rfl⟩ rfl (Nat.le_of_ble_eq_true rfl) (Nat.le_of_ble_eq_true rfl) (Nat.le_of_ble_eq_true rfl) (fun v9 h9 hp9 => ?_)
        obtain ⟨rfl, e9⟩ := hp9
        rw [e9]
        show J Γ h 4 240 17 [(4, .ref q), (0, .ref t), (1, .int (nI j)), (2, .int p), (3, .int s)] [.int (k_inR p (-9999) (nI 9999))]
        refine J_if_eq X 35 (dt tX1_comes 8 rfl) (by decide) (fun _ => ?_) (fun c9 => absurd (c1) c9)
        refine J_iconst X (nI 0) (dt tX1_comes 16 rfl) (by decide) ?_
        refine J_ldc X (dt tX1_comes 17 rfl) q469 ?_
        refine J_callSNX (rest := []) X (dt tX1_comes 18 rfl) (c_wantF l D _ (x := nI 0) (c := (-10000001)) hl9 rfl) (lw_meth q492) q69 q490 q491 okX0_want rfl ⟨Nat.le_of_ble_eq_true rfl, Nat.le_of_ble_eq_true rfl⟩ rfl (Nat.le_of_ble_eq_true rfl) (Nat.le_of_ble_eq_true rfl) (Nat.le_of_ble_eq_true rfl) (fun _ _ z => z.elim) (fun E9 q9 h9 hx9 => ?_)
        exact JX_out X hrx htb (fun x hx => nomatch hx) (Nat.le_of_ble_eq_true rfl) (Nat.le_of_ble_eq_true rfl) (by rw [show (m_come σ (nI j) p s).1 = (-10000001) from come_1 hj c1]; exact RfX.d hx9 H.ext (by decide))
      · by_cases c2 : k_inR s (-99) (nI 99) = 0
        · refine J_aload_n X (dt tX1_comes 0 rfl) 0 rfl ?_
          refine J_iload_n X (dt tX1_comes 1 rfl) 1 rfl ?_
          refine J_callVW (rest := []) X (T := TX1) (dt tX1_comes 2 rfl) (c_TinY l D _ H.ct H.ln hj) (lw_VW q380 q381 q382 q70 q383) okX1_in rfl (Or.inl H.ct) rfl ⟨Nat.le_of_ble_eq_true rfl, Nat.le_of_ble_eq_true rfl⟩ rfl (Nat.le_of_ble_eq_true rfl) (Nat.le_of_ble_eq_true rfl) (Nat.le_of_ble_eq_true rfl) (fun v9 h9 hp9 => ?_) (fun _ _ _ z => z.elim)
          obtain ⟨rfl, e9⟩ := hp9
          rw [e9]
          show J Γ h 4 240 5 [(0, .ref t), (1, .int (nI j)), (2, .int p), (3, .int s)] [va_rf (ru j)]
          refine J_topq (rf_s hr) ?_
          refine J_astore X (lv2 := [(4, .ref q), (0, .ref t), (1, .int (nI j)), (2, .int p), (3, .int s)]) (dt tX1_comes 3 rfl) rfl rfl ?_
          refine J_iload_n X (dt tX1_comes 4 rfl) 3 rfl ?_
          refine J_sipush X (-9999) (dt tX1_comes 5 rfl) (by decide) ?_
          refine J_sipush X (nI 9999) (dt tX1_comes 6 rfl) (by decide) ?_
          refine J_callSN (rest := []) X (dt tX1_comes 7 rfl) (c_inR l D _ p (-9999) (nI 9999)) (lw_meth q489) q69 q487 q488 okX0_inRange rfl ⟨Nat.le_of_ble_eq_true rfl, Nat.le_of_ble_eq_true rfl⟩ rfl (Nat.le_of_ble_eq_true rfl) (Nat.le_of_ble_eq_true rfl) (Nat.le_of_ble_eq_true rfl) (fun v9 h9 hp9 => ?_)
          obtain ⟨rfl, e9⟩ := hp9
          rw [e9]
          show J Γ h 4 240 17 [(4, .ref q), (0, .ref t), (1, .int (nI j)), (2, .int p), (3, .int s)] [.int (k_inR p (-9999) (nI 9999))]
          refine J_if_eq X 35 (dt tX1_comes 8 rfl) (by decide) (fun c9 => absurd c9 (c1)) (fun _ => ?_)
          refine J_iload_n X (dt tX1_comes 9 rfl) 4 rfl ?_
          refine J_bipush X (-99) (dt tX1_comes 10 rfl) (by decide) ?_
          refine J_bipush X (nI 99) (dt tX1_comes 11 rfl) (by decide) ?_
          refine J_callSN (rest := []) X (dt tX1_comes 12 rfl) (c_inR l D _ s (-99) (nI 99)) (lw_meth q489) q69 q487 q488 okX0_inRange rfl ⟨Nat.le_of_ble_eq_true rfl, Nat.le_of_ble_eq_true rfl⟩ rfl (Nat.le_of_ble_eq_true rfl) (Nat.le_of_ble_eq_true rfl) (Nat.le_of_ble_eq_true rfl) (fun v9 h9 hp9 => ?_)
          obtain ⟨rfl, e9⟩ := hp9
          rw [e9]
          show J Γ h 4 240 28 [(4, .ref q), (0, .ref t), (1, .int (nI j)), (2, .int p), (3, .int s)] [.int (k_inR s (-99) (nI 99))]
          refine J_if_eq X 35 (dt tX1_comes 13 rfl) (by decide) (fun _ => ?_) (fun c9 => absurd (c2) c9)
          refine J_iconst X (nI 0) (dt tX1_comes 16 rfl) (by decide) ?_
          refine J_ldc X (dt tX1_comes 17 rfl) q469 ?_
          refine J_callSNX (rest := []) X (dt tX1_comes 18 rfl) (c_wantF l D _ (x := nI 0) (c := (-10000001)) hl9 rfl) (lw_meth q492) q69 q490 q491 okX0_want rfl ⟨Nat.le_of_ble_eq_true rfl, Nat.le_of_ble_eq_true rfl⟩ rfl (Nat.le_of_ble_eq_true rfl) (Nat.le_of_ble_eq_true rfl) (Nat.le_of_ble_eq_true rfl) (fun _ _ z => z.elim) (fun E9 q9 h9 hx9 => ?_)
          exact JX_out X hrx htb (fun x hx => nomatch hx) (Nat.le_of_ble_eq_true rfl) (Nat.le_of_ble_eq_true rfl) (by rw [show (m_come σ (nI j) p s).1 = (-10000001) from come_2 hj c1 c2]; exact RfX.d hx9 H.ext (by decide))
        · refine J_aload_n X (dt tX1_comes 0 rfl) 0 rfl ?_
          refine J_iload_n X (dt tX1_comes 1 rfl) 1 rfl ?_
          refine J_callVW (rest := []) X (T := TX1) (dt tX1_comes 2 rfl) (c_TinY l D _ H.ct H.ln hj) (lw_VW q380 q381 q382 q70 q383) okX1_in rfl (Or.inl H.ct) rfl ⟨Nat.le_of_ble_eq_true rfl, Nat.le_of_ble_eq_true rfl⟩ rfl (Nat.le_of_ble_eq_true rfl) (Nat.le_of_ble_eq_true rfl) (Nat.le_of_ble_eq_true rfl) (fun v9 h9 hp9 => ?_) (fun _ _ _ z => z.elim)
          obtain ⟨rfl, e9⟩ := hp9
          rw [e9]
          show J Γ h 4 240 5 [(0, .ref t), (1, .int (nI j)), (2, .int p), (3, .int s)] [va_rf (ru j)]
          refine J_topq (rf_s hr) ?_
          refine J_astore X (lv2 := [(4, .ref q), (0, .ref t), (1, .int (nI j)), (2, .int p), (3, .int s)]) (dt tX1_comes 3 rfl) rfl rfl ?_
          refine J_iload_n X (dt tX1_comes 4 rfl) 3 rfl ?_
          refine J_sipush X (-9999) (dt tX1_comes 5 rfl) (by decide) ?_
          refine J_sipush X (nI 9999) (dt tX1_comes 6 rfl) (by decide) ?_
          refine J_callSN (rest := []) X (dt tX1_comes 7 rfl) (c_inR l D _ p (-9999) (nI 9999)) (lw_meth q489) q69 q487 q488 okX0_inRange rfl ⟨Nat.le_of_ble_eq_true rfl, Nat.le_of_ble_eq_true rfl⟩ rfl (Nat.le_of_ble_eq_true rfl) (Nat.le_of_ble_eq_true rfl) (Nat.le_of_ble_eq_true rfl) (fun v9 h9 hp9 => ?_)
          obtain ⟨rfl, e9⟩ := hp9
          rw [e9]
          show J Γ h 4 240 17 [(4, .ref q), (0, .ref t), (1, .int (nI j)), (2, .int p), (3, .int s)] [.int (k_inR p (-9999) (nI 9999))]
          refine J_if_eq X 35 (dt tX1_comes 8 rfl) (by decide) (fun c9 => absurd c9 (c1)) (fun _ => ?_)
          refine J_iload_n X (dt tX1_comes 9 rfl) 4 rfl ?_
          refine J_bipush X (-99) (dt tX1_comes 10 rfl) (by decide) ?_
          refine J_bipush X (nI 99) (dt tX1_comes 11 rfl) (by decide) ?_
          refine J_callSN (rest := []) X (dt tX1_comes 12 rfl) (c_inR l D _ s (-99) (nI 99)) (lw_meth q489) q69 q487 q488 okX0_inRange rfl ⟨Nat.le_of_ble_eq_true rfl, Nat.le_of_ble_eq_true rfl⟩ rfl (Nat.le_of_ble_eq_true rfl) (Nat.le_of_ble_eq_true rfl) (Nat.le_of_ble_eq_true rfl) (fun v9 h9 hp9 => ?_)
          obtain ⟨rfl, e9⟩ := hp9
          rw [e9]
          show J Γ h 4 240 28 [(4, .ref q), (0, .ref t), (1, .int (nI j)), (2, .int p), (3, .int s)] [.int (k_inR s (-99) (nI 99))]
          refine J_if_eq X 35 (dt tX1_comes 13 rfl) (by decide) (fun c9 => absurd c9 (c2)) (fun _ => ?_)
          refine J_iconst X (nI 1) (dt tX1_comes 14 rfl) (by decide) ?_
          refine J_goto X (tgt := 36) (dt tX1_comes 15 rfl) (by decide) ?_
          refine J_ldc X (dt tX1_comes 17 rfl) q469 ?_
          refine J_callSN (rest := []) X (dt tX1_comes 18 rfl) (c_wantT l D _ (x := nI 1) (c := (-10000001)) (by decide)) (lw_meth q492) q69 q490 q491 okX0_want rfl ⟨Nat.le_of_ble_eq_true rfl, Nat.le_of_ble_eq_true rfl⟩ rfl (Nat.le_of_ble_eq_true rfl) (Nat.le_of_ble_eq_true rfl) (Nat.le_of_ble_eq_true rfl) (fun v9 h9 hp9 => ?_)
          obtain ⟨rfl, e9⟩ := hp9
          rw [e9]
          show J Γ h 4 240 41 [(4, .ref q), (0, .ref t), (1, .int (nI j)), (2, .int p), (3, .int s)] []
          refine J_aload X (dt tX1_comes 19 rfl) 0 rfl ?_
          refine J_ifnonnull X (some q) 50 (dt tX1_comes 20 rfl) (by decide) (fun _ _ => ?_) (fun c9 => by cases c9)
          refine J_iconst X (nI 0) (dt tX1_comes 23 rfl) (by decide) ?_
          refine J_ldc X (dt tX1_comes 24 rfl) q498 ?_
          refine J_callSNX (rest := []) X (dt tX1_comes 25 rfl) (c_wantF l D _ (x := nI 0) (c := (-10000002)) hl9 rfl) (lw_meth q492) q69 q490 q491 okX0_want rfl ⟨Nat.le_of_ble_eq_true rfl, Nat.le_of_ble_eq_true rfl⟩ rfl (Nat.le_of_ble_eq_true rfl) (Nat.le_of_ble_eq_true rfl) (Nat.le_of_ble_eq_true rfl) (fun _ _ z => z.elim) (fun E9 q9 h9 hx9 => ?_)
          exact JX_out X hrx htb (fun x hx => nomatch hx) (Nat.le_of_ble_eq_true rfl) (Nat.le_of_ble_eq_true rfl) (by rw [show (m_come σ (nI j) p s).1 = (-10000002) from come_3 hj c1 c2 hs]; exact RfX.d hx9 H.ext (by decide))
  · refine J_aload_n X (dt tX1_comes 0 rfl) 0 rfl ?_
    refine J_iload_n X (dt tX1_comes 1 rfl) 1 rfl ?_
    refine J_callVW (rest := []) X (T := TX1) (dt tX1_comes 2 rfl) (c_TinN l D _ H.ct H.ln hl9 (out8 hx)) (lw_VW q380 q381 q382 q70 q383) okX1_in rfl (Or.inl H.ct) rfl ⟨Nat.le_of_ble_eq_true rfl, Nat.le_of_ble_eq_true rfl⟩ rfl (Nat.le_of_ble_eq_true rfl) (Nat.le_of_ble_eq_true rfl) (Nat.le_of_ble_eq_true rfl) (fun _ _ z => z.elim) (fun E9 q9 h9 hx9 => ?_)
    exact JX_out X hrx htb (fun x hx => nomatch hx) (Nat.le_of_ble_eq_true rfl) (Nat.le_of_ble_eq_true rfl) (by rw [show (m_come σ x p s).1 = -10000001 from m_come_out hx]; exact RfX.d hx9 H.ext (by decide))
abbrev cX1_goes : ByteArray := prog_10_method_14_code
def yX1_goes : MethodName := ⟨RX1, "goes", "(I)I"⟩
theorem tX1_goes : dtab cX1_goes [(0, .aload_n 0, 1, 1), (1, .iload_n 1, 1, 2), (2, .invokevirtual 137, 3, 5), (5, .ifnull 7, 3, 8), (8, .iconst 1, 1, 9), (9, .goto 4, 3, 12), (12, .iconst 0, 1, 13), (13, .ldc 149, 2, 15), (15, .invokestatic 145, 3, 18), (18, .aload_n 0, 1, 19), (19, .getfield 11, 3, 22), (22, .iload_n 1, 1, 23), (23, .aconst_null, 1, 24), (24, .aastore, 1, 25), (25, .aload_n 0, 1, 26), (26, .iload_n 1, 1, 27), (27, .invokevirtual 153, 3, 30), (30, .aload_n 0, 1, 31), (31, .invokevirtual 161, 3, 34), (34, .ireturn, 1, 35)] := by unfold dtab; decide +kernel
theorem okX1_goes : okY yX1_goes 1 := by decide +kernel
set_option maxHeartbeats 4000000 in
theorem c_Tgoes (l : Launch) (D : va_G) (h : PH) {b : PH} {t : Nat} {σ : MS} {x : Int32}  (hl9 : l.stackTraces = false) (HQ : TQ b h t (σ.1 0)) : Cq l D yX1_goes (ws_ yX1_goes cX1_goes 2 (some .int)) (rmC 9 10262 6 247) [.ref t, .int x] h (fun v h9 => v = some (.int (m_go σ x).1) ∧ -10000001 < (m_go σ x).1 ∧ TQ b h9 t ((m_go σ x).2.1 0)) (Rfd b (m_go σ x).1) := by
  refine Cq.of (by decide) rfl (fun Γ X rr hmn htb hrx => ?_)
  have X : Cx l D cX1_goes RX1 2 (rmC 9 10262 6 247) Γ := X
  show J Γ h 0 0 0 [(0, .ref t), (1, .int x)] []
  obtain ⟨T, rc, ru, H⟩ := HQ
  rcases ln_cases x with ⟨j, hj, rfl⟩ | hx
  · show J Γ h 0 0 0 [(0, .ref t), (1, .int (nI j))] []
    cases hr : ru j with
    | none =>
      have hs := has_n (σ := σ) rfl H.hh hj hr
      refine J_aload_n X (dt tX1_goes 0 rfl) 0 rfl ?_
      refine J_iload_n X (dt tX1_goes 1 rfl) 1 rfl ?_
      refine J_callVW (rest := []) X (T := TX1) (dt tX1_goes 2 rfl) (c_TinY l D _ H.ct H.ln hj) (lw_VW q380 q381 q382 q70 q383) okX1_in rfl (Or.inl H.ct) rfl ⟨Nat.le_of_ble_eq_true rfl, Nat.le_of_ble_eq_true rfl⟩ rfl (Nat.le_of_ble_eq_true rfl) (Nat.le_of_ble_eq_true rfl) (Nat.le_of_ble_eq_true rfl) (fun v9 h9 hp9 => ?_) (fun _ _ _ z => z.elim)
      obtain ⟨rfl, e9⟩ := hp9
      rw [e9]
      show J Γ h 4 240 5 [(0, .ref t), (1, .int (nI j))] [va_rf (ru j)]
      refine J_topq (congrArg va_rf hr) ?_
      refine J_ifnull X none 12 (dt tX1_goes 3 rfl) (by decide) (fun _ => ?_) (fun _ c9 => by cases c9)
      refine J_iconst X (nI 0) (dt tX1_goes 6 rfl) (by decide) ?_
      refine J_ldc X (dt tX1_goes 7 rfl) q498 ?_
      refine J_callSNX (rest := []) X (dt tX1_goes 8 rfl) (c_wantF l D _ (x := nI 0) (c := (-10000002)) hl9 rfl) (lw_meth q492) q69 q490 q491 okX0_want rfl ⟨Nat.le_of_ble_eq_true rfl, Nat.le_of_ble_eq_true rfl⟩ rfl (Nat.le_of_ble_eq_true rfl) (Nat.le_of_ble_eq_true rfl) (Nat.le_of_ble_eq_true rfl) (fun _ _ z => z.elim) (fun E9 q9 h9 hx9 => ?_)
      exact JX_out X hrx htb (fun x hx => nomatch hx) (Nat.le_of_ble_eq_true rfl) (Nat.le_of_ble_eq_true rfl) (by rw [show (m_go σ (nI j)).1 = (-10000002) from go_1 hj hs]; exact RfX.d hx9 H.ext (by decide))
    | some q =>
      have hs := has_s (σ := σ) rfl H.hh hj hr
      have hm := go_2 (σ := σ) hj hs
      refine J_aload_n X (dt tX1_goes 0 rfl) 0 rfl ?_
      refine J_iload_n X (dt tX1_goes 1 rfl) 1 rfl ?_
      refine J_callVW (rest := []) X (T := TX1) (dt tX1_goes 2 rfl) (c_TinY l D _ H.ct H.ln hj) (lw_VW q380 q381 q382 q70 q383) okX1_in rfl (Or.inl H.ct) rfl ⟨Nat.le_of_ble_eq_true rfl, Nat.le_of_ble_eq_true rfl⟩ rfl (Nat.le_of_ble_eq_true rfl) (Nat.le_of_ble_eq_true rfl) (Nat.le_of_ble_eq_true rfl) (fun v9 h9 hp9 => ?_) (fun _ _ _ z => z.elim)
      obtain ⟨rfl, e9⟩ := hp9
      rw [e9]
      show J Γ h 4 240 5 [(0, .ref t), (1, .int (nI j))] [va_rf (ru j)]
      refine J_topq (rf_s hr) ?_
      refine J_ifnull X (some q) 12 (dt tX1_goes 3 rfl) (by decide) (fun c9 => by cases c9) (fun _ _ => ?_)
      refine J_iconst X (nI 1) (dt tX1_goes 4 rfl) (by decide) ?_
      refine J_goto X (tgt := 13) (dt tX1_goes 5 rfl) (by decide) ?_
      refine J_ldc X (dt tX1_goes 7 rfl) q498 ?_
      refine J_callSN (rest := []) X (dt tX1_goes 8 rfl) (c_wantT l D _ (x := nI 1) (c := (-10000002)) (by decide)) (lw_meth q492) q69 q490 q491 okX0_want rfl ⟨Nat.le_of_ble_eq_true rfl, Nat.le_of_ble_eq_true rfl⟩ rfl (Nat.le_of_ble_eq_true rfl) (Nat.le_of_ble_eq_true rfl) (Nat.le_of_ble_eq_true rfl) (fun v9 h9 hp9 => ?_)
      obtain ⟨rfl, e9⟩ := hp9
      rw [e9]
      show J Γ h 4 240 18 [(0, .ref t), (1, .int (nI j))] []
      refine J_aload_n X (dt tX1_goes 9 rfl) 0 rfl ?_
      refine g_X1_11_1 X (dt tX1_goes 10 rfl) H.ct rfl ?_
      refine J_iload_n X (dt tX1_goes 11 rfl) 1 rfl ?_
      refine J_null X (dt tX1_goes 12 rfl) ?_
      refine J_rastN X (dt tX1_goes 13 rfl) H.ln (by omega) (by decide) ?_
      refine J_aload_n X (dt tX1_goes 14 rfl) 0 rfl ?_
      refine J_iload_n X (dt tX1_goes 15 rfl) 1 rfl ?_
      have HC : TK b (pu h (T 0) (eR 8 (va_up ru j none))) t T rc (va_up ru j none) (fun i => i ≠ j / 2 ∧ i ≠ 4 + j / 4 ∧ i ≠ 6) ((sA σ 0 (upd (σ.1 0) (1 + j) 0)).1 0) := TK.go H hj
      refine J_callVR (rest := []) X (T := TX1) (dt tX1_goes 16 rfl) (c_Tfrom l D _ (σ := sA σ 0 (upd (σ.1 0) (1 + j) 0)) (j := j) HC hj) (lw_V q524 q526 qs4 q70 q527) okX1_runsFrom rfl (Or.inl (pu_o (ne_oa H.ct H.ln) H.ct)) rfl ⟨Nat.le_of_ble_eq_true rfl, Nat.le_of_ble_eq_true rfl⟩ rfl (Nat.le_of_ble_eq_true rfl) (Nat.le_of_ble_eq_true rfl) (Nat.le_of_ble_eq_true rfl) (fun v9 g1 hp9 => ?_)
      obtain ⟨rfl, H2⟩ := hp9
      show J Γ g1 6 245 30 [(0, .ref t), (1, .int (nI j))] []
      obtain ⟨k9, hk9, ek9⟩ := runs0_nat H2.hh 8 (by omega)
      refine J_aload_n X (dt tX1_goes 17 rfl) 0 rfl ?_
      refine J_callVR (rest := []) X (T := TX1) (dt tX1_goes 18 rfl) (c_Tmany l D _ H2.ct H2.ln H2.hh) (lw_V q1146 q1147 q1148 q70 q1149) okX1_many rfl (Or.inl H2.ct) rfl ⟨Nat.le_of_ble_eq_true rfl, Nat.le_of_ble_eq_true rfl⟩ rfl (Nat.le_of_ble_eq_true rfl) (Nat.le_of_ble_eq_true rfl) (Nat.le_of_ble_eq_true rfl) (fun v9 h9 hp9 => ?_)
      obtain ⟨rfl, e9⟩ := hp9
      rw [e9]
      show J Γ g1 6 245 34 [(0, .ref t), (1, .int (nI j))] [.int (m_runs0 ((m_forT (sA σ 0 (upd (σ.1 0) (1 + j) 0)) j).1 0) 8)]
      exact J_iret X rr (dt tX1_goes 19 rfl) (Nat.le_of_ble_eq_true rfl) (Nat.le_of_ble_eq_true rfl) (by rw [hm]; exact ⟨rfl, (show -10000001 < m_runs0 ((m_forT (sA σ 0 (upd (σ.1 0) (1 + j) 0)) j).1 0) 8 from by rw [ek9]; exact gt_nI (by omega)), T, rc, _, H2⟩)
  · refine J_aload_n X (dt tX1_goes 0 rfl) 0 rfl ?_
    refine J_iload_n X (dt tX1_goes 1 rfl) 1 rfl ?_
    refine J_callVW (rest := []) X (T := TX1) (dt tX1_goes 2 rfl) (c_TinN l D _ H.ct H.ln hl9 (out8 hx)) (lw_VW q380 q381 q382 q70 q383) okX1_in rfl (Or.inl H.ct) rfl ⟨Nat.le_of_ble_eq_true rfl, Nat.le_of_ble_eq_true rfl⟩ rfl (Nat.le_of_ble_eq_true rfl) (Nat.le_of_ble_eq_true rfl) (Nat.le_of_ble_eq_true rfl) (fun _ _ z => z.elim) (fun E9 q9 h9 hx9 => ?_)
    exact JX_out X hrx htb (fun x hx => nomatch hx) (Nat.le_of_ble_eq_true rfl) (Nat.le_of_ble_eq_true rfl) (by rw [show (m_go σ x).1 = -10000001 from m_go_out hx]; exact RfX.d hx9 H.ext (by decide))
abbrev cX1_speeds : ByteArray := prog_10_method_15_code
def yX1_speeds : MethodName := ⟨RX1, "speeds", "(II)I"⟩
theorem tX1_speeds : dtab cX1_speeds [(0, .aload_n 0, 1, 1), (1, .iload_n 1, 1, 2), (2, .invokevirtual 137, 3, 5), (5, .astore_n 3, 1, 6), (6, .iload_n 2, 1, 7), (7, .bipush (-99), 2, 9), (9, .bipush 99, 2, 11), (11, .invokestatic 141, 3, 14), (14, .ldc 92, 2, 16), (16, .invokestatic 145, 3, 19), (19, .aload_n 3, 1, 20), (20, .ifnull 7, 3, 23), (23, .iconst 1, 1, 24), (24, .goto 4, 3, 27), (27, .iconst 0, 1, 28), (28, .ldc 149, 2, 30), (30, .invokestatic 145, 3, 33), (33, .aload_n 3, 1, 34), (34, .getfield 164, 3, 37), (37, .istore 4, 2, 39), (39, .aload_n 3, 1, 40), (40, .iload_n 2, 1, 41), (41, .putfield 164, 3, 44), (44, .aload_n 0, 1, 45), (45, .iload_n 1, 1, 46), (46, .invokevirtual 153, 3, 49), (49, .iload 4, 2, 51), (51, .ireturn, 1, 52)] := by unfold dtab; decide +kernel
theorem okX1_speeds : okY yX1_speeds 2 := by decide +kernel
set_option maxHeartbeats 4000000 in
theorem c_Tspeeds (l : Launch) (D : va_G) (h : PH) {b : PH} {t : Nat} {σ : MS} {x s : Int32}  (hl9 : l.stackTraces = false) (HQ : TQ b h t (σ.1 0)) : Cq l D yX1_speeds (ws_ yX1_speeds cX1_speeds 5 (some .int)) (rmC 9 10262 6 247) [.ref t, .int x, .int s] h (fun v h9 => v = some (.int (m_speed σ x s).1) ∧ -10000001 < (m_speed σ x s).1 ∧ TQ b h9 t ((m_speed σ x s).2.1 0)) (Rfd b (m_speed σ x s).1) := by
  refine Cq.of (by decide) rfl (fun Γ X rr hmn htb hrx => ?_)
  have X : Cx l D cX1_speeds RX1 5 (rmC 9 10262 6 247) Γ := X
  show J Γ h 0 0 0 [(0, .ref t), (1, .int x), (2, .int s)] []
  obtain ⟨T, rc, ru, H⟩ := HQ
  rcases ln_cases x with ⟨j, hj, rfl⟩ | hx
  · show J Γ h 0 0 0 [(0, .ref t), (1, .int (nI j)), (2, .int s)] []
    cases hr : ru j with
    | none =>
      have hs := has_n (σ := σ) rfl H.hh hj hr
      by_cases c1 : k_inR s (-99) (nI 99) = 0
      · refine J_aload_n X (dt tX1_speeds 0 rfl) 0 rfl ?_
        refine J_iload_n X (dt tX1_speeds 1 rfl) 1 rfl ?_
        refine J_callVW (rest := []) X (T := TX1) (dt tX1_speeds 2 rfl) (c_TinY l D _ H.ct H.ln hj) (lw_VW q380 q381 q382 q70 q383) okX1_in rfl (Or.inl H.ct) rfl ⟨Nat.le_of_ble_eq_true rfl, Nat.le_of_ble_eq_true rfl⟩ rfl (Nat.le_of_ble_eq_true rfl) (Nat.le_of_ble_eq_true rfl) (Nat.le_of_ble_eq_true rfl) (fun v9 h9 hp9 => ?_) (fun _ _ _ z => z.elim)
        obtain ⟨rfl, e9⟩ := hp9
        rw [e9]
        show J Γ h 4 240 5 [(0, .ref t), (1, .int (nI j)), (2, .int s)] [va_rf (ru j)]
        refine J_topq (congrArg va_rf hr) ?_
        refine J_astore_nN X (lv2 := [(3, .null), (0, .ref t), (1, .int (nI j)), (2, .int s)]) (dt tX1_speeds 3 rfl) rfl rfl rfl ?_
        refine J_iload_n X (dt tX1_speeds 4 rfl) 3 rfl ?_
        refine J_bipush X (-99) (dt tX1_speeds 5 rfl) (by decide) ?_
        refine J_bipush X (nI 99) (dt tX1_speeds 6 rfl) (by decide) ?_
        refine J_callSN (rest := []) X (dt tX1_speeds 7 rfl) (c_inR l D _ s (-99) (nI 99)) (lw_meth q489) q69 q487 q488 okX0_inRange rfl ⟨Nat.le_of_ble_eq_true rfl, Nat.le_of_ble_eq_true rfl⟩ rfl (Nat.le_of_ble_eq_true rfl) (Nat.le_of_ble_eq_true rfl) (Nat.le_of_ble_eq_true rfl) (fun v9 h9 hp9 => ?_)
        obtain ⟨rfl, e9⟩ := hp9
        rw [e9]
        show J Γ h 4 240 14 [(3, .null), (0, .ref t), (1, .int (nI j)), (2, .int s)] [.int (k_inR s (-99) (nI 99))]
        refine J_ldc X (dt tX1_speeds 8 rfl) q469 ?_
        refine J_callSNX (rest := []) X (dt tX1_speeds 9 rfl) (c_wantF l D _ (x := k_inR s (-99) (nI 99)) (c := (-10000001)) hl9 c1) (lw_meth q492) q69 q490 q491 okX0_want rfl ⟨Nat.le_of_ble_eq_true rfl, Nat.le_of_ble_eq_true rfl⟩ rfl (Nat.le_of_ble_eq_true rfl) (Nat.le_of_ble_eq_true rfl) (Nat.le_of_ble_eq_true rfl) (fun _ _ z => z.elim) (fun E9 q9 h9 hx9 => ?_)
        exact JX_out X hrx htb (fun x hx => nomatch hx) (Nat.le_of_ble_eq_true rfl) (Nat.le_of_ble_eq_true rfl) (by rw [show (m_speed σ (nI j) s).1 = (-10000001) from speed_1 hj c1]; exact RfX.d hx9 H.ext (by decide))
      · refine J_aload_n X (dt tX1_speeds 0 rfl) 0 rfl ?_
        refine J_iload_n X (dt tX1_speeds 1 rfl) 1 rfl ?_
        refine J_callVW (rest := []) X (T := TX1) (dt tX1_speeds 2 rfl) (c_TinY l D _ H.ct H.ln hj) (lw_VW q380 q381 q382 q70 q383) okX1_in rfl (Or.inl H.ct) rfl ⟨Nat.le_of_ble_eq_true rfl, Nat.le_of_ble_eq_true rfl⟩ rfl (Nat.le_of_ble_eq_true rfl) (Nat.le_of_ble_eq_true rfl) (Nat.le_of_ble_eq_true rfl) (fun v9 h9 hp9 => ?_) (fun _ _ _ z => z.elim)
        obtain ⟨rfl, e9⟩ := hp9
        rw [e9]
        show J Γ h 4 240 5 [(0, .ref t), (1, .int (nI j)), (2, .int s)] [va_rf (ru j)]
        refine J_topq (congrArg va_rf hr) ?_
        refine J_astore_nN X (lv2 := [(3, .null), (0, .ref t), (1, .int (nI j)), (2, .int s)]) (dt tX1_speeds 3 rfl) rfl rfl rfl ?_
        refine J_iload_n X (dt tX1_speeds 4 rfl) 3 rfl ?_
        refine J_bipush X (-99) (dt tX1_speeds 5 rfl) (by decide) ?_
        refine J_bipush X (nI 99) (dt tX1_speeds 6 rfl) (by decide) ?_
        refine J_callSN (rest := []) X (dt tX1_speeds 7 rfl) (c_inR l D _ s (-99) (nI 99)) (lw_meth q489) q69 q487 q488 okX0_inRange rfl ⟨Nat.le_of_ble_eq_true rfl, Nat.le_of_ble_eq_true rfl⟩ rfl (Nat.le_of_ble_eq_true rfl) (Nat.le_of_ble_eq_true rfl) (Nat.le_of_ble_eq_true rfl) (fun v9 h9 hp9 => ?_)
        obtain ⟨rfl, e9⟩ := hp9
        rw [e9]
        show J Γ h 4 240 14 [(3, .null), (0, .ref t), (1, .int (nI j)), (2, .int s)] [.int (k_inR s (-99) (nI 99))]
        refine J_ldc X (dt tX1_speeds 8 rfl) q469 ?_
        refine J_callSN (rest := []) X (dt tX1_speeds 9 rfl) (c_wantT l D _ (x := k_inR s (-99) (nI 99)) (c := (-10000001)) c1) (lw_meth q492) q69 q490 q491 okX0_want rfl ⟨Nat.le_of_ble_eq_true rfl, Nat.le_of_ble_eq_true rfl⟩ rfl (Nat.le_of_ble_eq_true rfl) (Nat.le_of_ble_eq_true rfl) (Nat.le_of_ble_eq_true rfl) (fun v9 h9 hp9 => ?_)
        obtain ⟨rfl, e9⟩ := hp9
        rw [e9]
        show J Γ h 4 240 19 [(3, .null), (0, .ref t), (1, .int (nI j)), (2, .int s)] []
        refine J_aload_nN X (dt tX1_speeds 10 rfl) 0 rfl ?_
        refine J_ifnull X none 27 (dt tX1_speeds 11 rfl) (by decide) (fun _ => ?_) (fun _ c9 => by cases c9)
        refine J_iconst X (nI 0) (dt tX1_speeds 14 rfl) (by decide) ?_
        refine J_ldc X (dt tX1_speeds 15 rfl) q498 ?_
        refine J_callSNX (rest := []) X (dt tX1_speeds 16 rfl) (c_wantF l D _ (x := nI 0) (c := (-10000002)) hl9 rfl) (lw_meth q492) q69 q490 q491 okX0_want rfl ⟨Nat.le_of_ble_eq_true rfl, Nat.le_of_ble_eq_true rfl⟩ rfl (Nat.le_of_ble_eq_true rfl) (Nat.le_of_ble_eq_true rfl) (Nat.le_of_ble_eq_true rfl) (fun _ _ z => z.elim) (fun E9 q9 h9 hx9 => ?_)
        exact JX_out X hrx htb (fun x hx => nomatch hx) (Nat.le_of_ble_eq_true rfl) (Nat.le_of_ble_eq_true rfl) (by rw [show (m_speed σ (nI j) s).1 = (-10000002) from speed_2 hj c1 hs]; exact RfX.d hx9 H.ext (by decide))
    | some q =>
      have hs := has_s (σ := σ) rfl H.hh hj hr
      by_cases c1 : k_inR s (-99) (nI 99) = 0
      · refine J_aload_n X (dt tX1_speeds 0 rfl) 0 rfl ?_
        refine J_iload_n X (dt tX1_speeds 1 rfl) 1 rfl ?_
        refine J_callVW (rest := []) X (T := TX1) (dt tX1_speeds 2 rfl) (c_TinY l D _ H.ct H.ln hj) (lw_VW q380 q381 q382 q70 q383) okX1_in rfl (Or.inl H.ct) rfl ⟨Nat.le_of_ble_eq_true rfl, Nat.le_of_ble_eq_true rfl⟩ rfl (Nat.le_of_ble_eq_true rfl) (Nat.le_of_ble_eq_true rfl) (Nat.le_of_ble_eq_true rfl) (fun v9 h9 hp9 => ?_) (fun _ _ _ z => z.elim)
        obtain ⟨rfl, e9⟩ := hp9
        rw [e9]
        show J Γ h 4 240 5 [(0, .ref t), (1, .int (nI j)), (2, .int s)] [va_rf (ru j)]
        refine J_topq (rf_s hr) ?_
        refine J_astore_n X (lv2 := [(3, .ref q), (0, .ref t), (1, .int (nI j)), (2, .int s)]) (dt tX1_speeds 3 rfl) rfl rfl rfl ?_
        refine J_iload_n X (dt tX1_speeds 4 rfl) 3 rfl ?_
        refine J_bipush X (-99) (dt tX1_speeds 5 rfl) (by decide) ?_
        refine J_bipush X (nI 99) (dt tX1_speeds 6 rfl) (by decide) ?_
        refine J_callSN (rest := []) X (dt tX1_speeds 7 rfl) (c_inR l D _ s (-99) (nI 99)) (lw_meth q489) q69 q487 q488 okX0_inRange rfl ⟨Nat.le_of_ble_eq_true rfl, Nat.le_of_ble_eq_true rfl⟩ rfl (Nat.le_of_ble_eq_true rfl) (Nat.le_of_ble_eq_true rfl) (Nat.le_of_ble_eq_true rfl) (fun v9 h9 hp9 => ?_)
        obtain ⟨rfl, e9⟩ := hp9
        rw [e9]
        show J Γ h 4 240 14 [(3, .ref q), (0, .ref t), (1, .int (nI j)), (2, .int s)] [.int (k_inR s (-99) (nI 99))]
        refine J_ldc X (dt tX1_speeds 8 rfl) q469 ?_
        refine J_callSNX (rest := []) X (dt tX1_speeds 9 rfl) (c_wantF l D _ (x := k_inR s (-99) (nI 99)) (c := (-10000001)) hl9 c1) (lw_meth q492) q69 q490 q491 okX0_want rfl ⟨Nat.le_of_ble_eq_true rfl, Nat.le_of_ble_eq_true rfl⟩ rfl (Nat.le_of_ble_eq_true rfl) (Nat.le_of_ble_eq_true rfl) (Nat.le_of_ble_eq_true rfl) (fun _ _ z => z.elim) (fun E9 q9 h9 hx9 => ?_)
        exact JX_out X hrx htb (fun x hx => nomatch hx) (Nat.le_of_ble_eq_true rfl) (Nat.le_of_ble_eq_true rfl) (by rw [show (m_speed σ (nI j) s).1 = (-10000001) from speed_1 hj c1]; exact RfX.d hx9 H.ext (by decide))
      · have hm := speed_3 (σ := σ) hj c1 hs
        have r1 := k_inR_iff.mp c1
        refine J_aload_n X (dt tX1_speeds 0 rfl) 0 rfl ?_
        refine J_iload_n X (dt tX1_speeds 1 rfl) 1 rfl ?_
        refine J_callVW (rest := []) X (T := TX1) (dt tX1_speeds 2 rfl) (c_TinY l D _ H.ct H.ln hj) (lw_VW q380 q381 q382 q70 q383) okX1_in rfl (Or.inl H.ct) rfl ⟨Nat.le_of_ble_eq_true rfl, Nat.le_of_ble_eq_true rfl⟩ rfl (Nat.le_of_ble_eq_true rfl) (Nat.le_of_ble_eq_true rfl) (Nat.le_of_ble_eq_true rfl) (fun v9 h9 hp9 => ?_) (fun _ _ _ z => z.elim)
        obtain ⟨rfl, e9⟩ := hp9
        rw [e9]
        show J Γ h 4 240 5 [(0, .ref t), (1, .int (nI j)), (2, .int s)] [va_rf (ru j)]
        refine J_topq (rf_s hr) ?_
        refine J_astore_n X (lv2 := [(3, .ref q), (0, .ref t), (1, .int (nI j)), (2, .int s)]) (dt tX1_speeds 3 rfl) rfl rfl rfl ?_
        refine J_iload_n X (dt tX1_speeds 4 rfl) 3 rfl ?_
        refine J_bipush X (-99) (dt tX1_speeds 5 rfl) (by decide) ?_
        refine J_bipush X (nI 99) (dt tX1_speeds 6 rfl) (by decide) ?_
        refine J_callSN (rest := []) X (dt tX1_speeds 7 rfl) (c_inR l D _ s (-99) (nI 99)) (lw_meth q489) q69 q487 q488 okX0_inRange rfl ⟨Nat.le_of_ble_eq_true rfl, Nat.le_of_ble_eq_true rfl⟩ rfl (Nat.le_of_ble_eq_true rfl) (Nat.le_of_ble_eq_true rfl) (Nat.le_of_ble_eq_true rfl) (fun v9 h9 hp9 => ?_)
        obtain ⟨rfl, e9⟩ := hp9
        rw [e9]
        show J Γ h 4 240 14 [(3, .ref q), (0, .ref t), (1, .int (nI j)), (2, .int s)] [.int (k_inR s (-99) (nI 99))]
        refine J_ldc X (dt tX1_speeds 8 rfl) q469 ?_
        refine J_callSN (rest := []) X (dt tX1_speeds 9 rfl) (c_wantT l D _ (x := k_inR s (-99) (nI 99)) (c := (-10000001)) c1) (lw_meth q492) q69 q490 q491 okX0_want rfl ⟨Nat.le_of_ble_eq_true rfl, Nat.le_of_ble_eq_true rfl⟩ rfl (Nat.le_of_ble_eq_true rfl) (Nat.le_of_ble_eq_true rfl) (Nat.le_of_ble_eq_true rfl) (fun v9 h9 hp9 => ?_)
        obtain ⟨rfl, e9⟩ := hp9
        rw [e9]
        show J Γ h 4 240 19 [(3, .ref q), (0, .ref t), (1, .int (nI j)), (2, .int s)] []
        refine J_aload_n X (dt tX1_speeds 10 rfl) 0 rfl ?_
        refine J_ifnull X (some q) 27 (dt tX1_speeds 11 rfl) (by decide) (fun c9 => by cases c9) (fun _ _ => ?_)
        refine J_iconst X (nI 1) (dt tX1_speeds 12 rfl) (by decide) ?_
        refine J_goto X (tgt := 28) (dt tX1_speeds 13 rfl) (by decide) ?_
        refine J_ldc X (dt tX1_speeds 15 rfl) q498 ?_
        refine J_callSN (rest := []) X (dt tX1_speeds 16 rfl) (c_wantT l D _ (x := nI 1) (c := (-10000002)) (by decide)) (lw_meth q492) q69 q490 q491 okX0_want rfl ⟨Nat.le_of_ble_eq_true rfl, Nat.le_of_ble_eq_true rfl⟩ rfl (Nat.le_of_ble_eq_true rfl) (Nat.le_of_ble_eq_true rfl) (Nat.le_of_ble_eq_true rfl) (fun v9 h9 hp9 => ?_)
        obtain ⟨rfl, e9⟩ := hp9
        rw [e9]
        show J Γ h 4 240 33 [(3, .ref q), (0, .ref t), (1, .int (nI j)), (2, .int s)] []
        refine J_aload_n X (dt tX1_speeds 17 rfl) 0 rfl ?_
        refine g_X1_164_10 X (dt tX1_speeds 18 rfl) (H.cu hj hr) rfl ?_
        refine J_istore X (lv2 := [(4, .int (σ.1 0 (17 + j))), (3, .ref q), (0, .ref t), (1, .int (nI j)), (2, .int s)]) (dt tX1_speeds 19 rfl) rfl rfl ?_
        refine J_aload_n X (dt tX1_speeds 20 rfl) 1 rfl ?_
        refine J_iload_n X (dt tX1_speeds 21 rfl) 4 rfl ?_
        refine p_X1_164_10 X (fs2 := [.int (nI j), .int (σ.1 0 (9 + j)), .int s, .int (σ.1 0 (25 + j))]) (dt tX1_speeds 22 rfl) (H.cu hj hr) rfl rfl rfl rfl ?_
        refine J_aload_n X (dt tX1_speeds 23 rfl) 2 rfl ?_
        refine J_iload_n X (dt tX1_speeds 24 rfl) 3 rfl ?_
        have HC : TK b (pu h q (eo 10 [.int (nI j), .int (σ.1 0 (9 + j)), .int s, .int (σ.1 0 (25 + j))])) t T rc ru (fun i => i ≠ j / 2 ∧ i ≠ 4 + j / 4 ∧ i ≠ 6) ((sA σ 0 (upd (σ.1 0) (17 + j) s)).1 0) := (TK.speed H hj hr r1).mono (fun _ _ _ => trivial)
        refine J_callVR (rest := []) X (T := TX1) (dt tX1_speeds 25 rfl) (c_Tfrom l D _ (σ := sA σ 0 (upd (σ.1 0) (17 + j) s)) (j := j) HC hj) (lw_V q524 q526 qs4 q70 q527) okX1_runsFrom rfl (Or.inl (pu_o (ne_c H.ct (H.cu hj hr) (by decide)) H.ct)) rfl ⟨Nat.le_of_ble_eq_true rfl, Nat.le_of_ble_eq_true rfl⟩ rfl (Nat.le_of_ble_eq_true rfl) (Nat.le_of_ble_eq_true rfl) (Nat.le_of_ble_eq_true rfl) (fun v9 g1 hp9 => ?_)
        obtain ⟨rfl, H2⟩ := hp9
        show J Γ g1 6 245 49 [(4, .int (σ.1 0 (17 + j))), (3, .ref q), (0, .ref t), (1, .int (nI j)), (2, .int s)] []
        refine J_iload X (dt tX1_speeds 26 rfl) 0 rfl ?_
        exact J_iret X rr (dt tX1_speeds 27 rfl) (Nat.le_of_ble_eq_true rfl) (Nat.le_of_ble_eq_true rfl) (by rw [hm]; exact ⟨rfl, gt_of (show -10000001 < (σ.1 0 (17 + j)).toInt from by have z := (H.bd.2 j hj).1; omega), T, rc, _, H2⟩)
  · refine J_aload_n X (dt tX1_speeds 0 rfl) 0 rfl ?_
    refine J_iload_n X (dt tX1_speeds 1 rfl) 1 rfl ?_
    refine J_callVW (rest := []) X (T := TX1) (dt tX1_speeds 2 rfl) (c_TinN l D _ H.ct H.ln hl9 (out8 hx)) (lw_VW q380 q381 q382 q70 q383) okX1_in rfl (Or.inl H.ct) rfl ⟨Nat.le_of_ble_eq_true rfl, Nat.le_of_ble_eq_true rfl⟩ rfl (Nat.le_of_ble_eq_true rfl) (Nat.le_of_ble_eq_true rfl) (Nat.le_of_ble_eq_true rfl) (fun _ _ z => z.elim) (fun E9 q9 h9 hx9 => ?_)
    exact JX_out X hrx htb (fun x hx => nomatch hx) (Nat.le_of_ble_eq_true rfl) (Nat.le_of_ble_eq_true rfl) (by rw [show (m_speed σ x s).1 = -10000001 from m_speed_out hx]; exact RfX.d hx9 H.ext (by decide))
abbrev cX1_jumps : ByteArray := prog_10_method_16_code
def yX1_jumps : MethodName := ⟨RX1, "jumps", "(II)I"⟩
theorem tX1_jumps : dtab cX1_jumps [(0, .aload_n 0, 1, 1), (1, .iload_n 1, 1, 2), (2, .invokevirtual 137, 3, 5), (5, .astore_n 3, 1, 6), (6, .iload_n 2, 1, 7), (7, .sipush (-999), 3, 10), (10, .sipush 999, 3, 13), (13, .invokestatic 141, 3, 16), (16, .ldc 92, 2, 18), (18, .invokestatic 145, 3, 21), (21, .aload_n 3, 1, 22), (22, .ifnull 7, 3, 25), (25, .iconst 1, 1, 26), (26, .goto 4, 3, 29), (29, .iconst 0, 1, 30), (30, .ldc 149, 2, 32), (32, .invokestatic 145, 3, 35), (35, .aload_n 3, 1, 36), (36, .getfield 167, 3, 39), (39, .iload_n 2, 1, 40), (40, .iadd, 1, 41), (41, .ldc 170, 2, 43), (43, .ldc 171, 2, 45), (45, .invokestatic 141, 3, 48), (48, .ldc 172, 2, 50), (50, .invokestatic 145, 3, 53), (53, .aload_n 3, 1, 54), (54, .dup, 1, 55), (55, .getfield 167, 3, 58), (58, .iload_n 2, 1, 59), (59, .iadd, 1, 60), (60, .putfield 167, 3, 63), (63, .aload_n 0, 1, 64), (64, .iload_n 1, 1, 65), (65, .invokevirtual 153, 3, 68), (68, .aload_n 0, 1, 69), (69, .invokevirtual 108, 3, 72), (72, .invokestatic 157, 3, 75), (75, .ireturn, 1, 76)] := by unfold dtab; decide +kernel
theorem okX1_jumps : okY yX1_jumps 2 := by decide +kernel
set_option maxHeartbeats 4000000 in
theorem c_Tjumps (l : Launch) (D : va_G) (h : PH) {b : PH} {t : Nat} {σ : MS} {x p : Int32}  (hl9 : l.stackTraces = false) (HQ : TQ b h t (σ.1 0)) : Cq l D yX1_jumps (ws_ yX1_jumps cX1_jumps 4 (some .int)) (rmC 9 10262 6 247) [.ref t, .int x, .int p] h (fun v h9 => v = some (.int (m_jump σ x p).1) ∧ -10000001 < (m_jump σ x p).1 ∧ TQ b h9 t ((m_jump σ x p).2.1 0)) (Rfd b (m_jump σ x p).1) := by
  refine Cq.of (by decide) rfl (fun Γ X rr hmn htb hrx => ?_)
  have X : Cx l D cX1_jumps RX1 4 (rmC 9 10262 6 247) Γ := X
  show J Γ h 0 0 0 [(0, .ref t), (1, .int x), (2, .int p)] []
  obtain ⟨T, rc, ru, H⟩ := HQ
  rcases ln_cases x with ⟨j, hj, rfl⟩ | hx
  · show J Γ h 0 0 0 [(0, .ref t), (1, .int (nI j)), (2, .int p)] []
    cases hr : ru j with
    | none =>
      have hs := has_n (σ := σ) rfl H.hh hj hr
      by_cases c1 : k_inR p (-999) (nI 999) = 0
      · refine J_aload_n X (dt tX1_jumps 0 rfl) 0 rfl ?_
        refine J_iload_n X (dt tX1_jumps 1 rfl) 1 rfl ?_
        refine J_callVW (rest := []) X (T := TX1) (dt tX1_jumps 2 rfl) (c_TinY l D _ H.ct H.ln hj) (lw_VW q380 q381 q382 q70 q383) okX1_in rfl (Or.inl H.ct) rfl ⟨Nat.le_of_ble_eq_true rfl, Nat.le_of_ble_eq_true rfl⟩ rfl (Nat.le_of_ble_eq_true rfl) (Nat.le_of_ble_eq_true rfl) (Nat.le_of_ble_eq_true rfl) (fun v9 h9 hp9 => ?_) (fun _ _ _ z => z.elim)
        obtain ⟨rfl, e9⟩ := hp9
        rw [e9]
        show J Γ h 4 240 5 [(0, .ref t), (1, .int (nI j)), (2, .int p)] [va_rf (ru j)]
        refine J_topq (congrArg va_rf hr) ?_
        refine J_astore_nN X (lv2 := [(3, .null), (0, .ref t), (1, .int (nI j)), (2, .int p)]) (dt tX1_jumps 3 rfl) rfl rfl rfl ?_
        refine J_iload_n X (dt tX1_jumps 4 rfl) 3 rfl ?_
        refine J_sipush X (-999) (dt tX1_jumps 5 rfl) (by decide) ?_
        refine J_sipush X (nI 999) (dt tX1_jumps 6 rfl) (by decide) ?_
        refine J_callSN (rest := []) X (dt tX1_jumps 7 rfl) (c_inR l D _ p (-999) (nI 999)) (lw_meth q489) q69 q487 q488 okX0_inRange rfl ⟨Nat.le_of_ble_eq_true rfl, Nat.le_of_ble_eq_true rfl⟩ rfl (Nat.le_of_ble_eq_true rfl) (Nat.le_of_ble_eq_true rfl) (Nat.le_of_ble_eq_true rfl) (fun v9 h9 hp9 => ?_)
        obtain ⟨rfl, e9⟩ := hp9
        rw [e9]
        show J Γ h 4 240 16 [(3, .null), (0, .ref t), (1, .int (nI j)), (2, .int p)] [.int (k_inR p (-999) (nI 999))]
        refine J_ldc X (dt tX1_jumps 8 rfl) q469 ?_
        refine J_callSNX (rest := []) X (dt tX1_jumps 9 rfl) (c_wantF l D _ (x := k_inR p (-999) (nI 999)) (c := (-10000001)) hl9 c1) (lw_meth q492) q69 q490 q491 okX0_want rfl ⟨Nat.le_of_ble_eq_true rfl, Nat.le_of_ble_eq_true rfl⟩ rfl (Nat.le_of_ble_eq_true rfl) (Nat.le_of_ble_eq_true rfl) (Nat.le_of_ble_eq_true rfl) (fun _ _ z => z.elim) (fun E9 q9 h9 hx9 => ?_)
        exact JX_out X hrx htb (fun x hx => nomatch hx) (Nat.le_of_ble_eq_true rfl) (Nat.le_of_ble_eq_true rfl) (by rw [show (m_jump σ (nI j) p).1 = (-10000001) from jump_1 hj c1]; exact RfX.d hx9 H.ext (by decide))
      · refine J_aload_n X (dt tX1_jumps 0 rfl) 0 rfl ?_
        refine J_iload_n X (dt tX1_jumps 1 rfl) 1 rfl ?_
        refine J_callVW (rest := []) X (T := TX1) (dt tX1_jumps 2 rfl) (c_TinY l D _ H.ct H.ln hj) (lw_VW q380 q381 q382 q70 q383) okX1_in rfl (Or.inl H.ct) rfl ⟨Nat.le_of_ble_eq_true rfl, Nat.le_of_ble_eq_true rfl⟩ rfl (Nat.le_of_ble_eq_true rfl) (Nat.le_of_ble_eq_true rfl) (Nat.le_of_ble_eq_true rfl) (fun v9 h9 hp9 => ?_) (fun _ _ _ z => z.elim)
        obtain ⟨rfl, e9⟩ := hp9
        rw [e9]
        show J Γ h 4 240 5 [(0, .ref t), (1, .int (nI j)), (2, .int p)] [va_rf (ru j)]
        refine J_topq (congrArg va_rf hr) ?_
        refine J_astore_nN X (lv2 := [(3, .null), (0, .ref t), (1, .int (nI j)), (2, .int p)]) (dt tX1_jumps 3 rfl) rfl rfl rfl ?_
        refine J_iload_n X (dt tX1_jumps 4 rfl) 3 rfl ?_
        refine J_sipush X (-999) (dt tX1_jumps 5 rfl) (by decide) ?_
        refine J_sipush X (nI 999) (dt tX1_jumps 6 rfl) (by decide) ?_
        refine J_callSN (rest := []) X (dt tX1_jumps 7 rfl) (c_inR l D _ p (-999) (nI 999)) (lw_meth q489) q69 q487 q488 okX0_inRange rfl ⟨Nat.le_of_ble_eq_true rfl, Nat.le_of_ble_eq_true rfl⟩ rfl (Nat.le_of_ble_eq_true rfl) (Nat.le_of_ble_eq_true rfl) (Nat.le_of_ble_eq_true rfl) (fun v9 h9 hp9 => ?_)
        obtain ⟨rfl, e9⟩ := hp9
        rw [e9]
        show J Γ h 4 240 16 [(3, .null), (0, .ref t), (1, .int (nI j)), (2, .int p)] [.int (k_inR p (-999) (nI 999))]
        refine J_ldc X (dt tX1_jumps 8 rfl) q469 ?_
        refine J_callSN (rest := []) X (dt tX1_jumps 9 rfl) (c_wantT l D _ (x := k_inR p (-999) (nI 999)) (c := (-10000001)) c1) (lw_meth q492) q69 q490 q491 okX0_want rfl ⟨Nat.le_of_ble_eq_true rfl, Nat.le_of_ble_eq_true rfl⟩ rfl (Nat.le_of_ble_eq_true rfl) (Nat.le_of_ble_eq_true rfl) (Nat.le_of_ble_eq_true rfl) (fun v9 h9 hp9 => ?_)
        obtain ⟨rfl, e9⟩ := hp9
        rw [e9]
        show J Γ h 4 240 21 [(3, .null), (0, .ref t), (1, .int (nI j)), (2, .int p)] []
        refine J_aload_nN X (dt tX1_jumps 10 rfl) 0 rfl ?_
        refine J_ifnull X none 29 (dt tX1_jumps 11 rfl) (by decide) (fun _ => ?_) (fun _ c9 => by cases c9)
        refine J_iconst X (nI 0) (dt tX1_jumps 14 rfl) (by decide) ?_
        refine J_ldc X (dt tX1_jumps 15 rfl) q498 ?_
        refine J_callSNX (rest := []) X (dt tX1_jumps 16 rfl) (c_wantF l D _ (x := nI 0) (c := (-10000002)) hl9 rfl) (lw_meth q492) q69 q490 q491 okX0_want rfl ⟨Nat.le_of_ble_eq_true rfl, Nat.le_of_ble_eq_true rfl⟩ rfl (Nat.le_of_ble_eq_true rfl) (Nat.le_of_ble_eq_true rfl) (Nat.le_of_ble_eq_true rfl) (fun _ _ z => z.elim) (fun E9 q9 h9 hx9 => ?_)
        exact JX_out X hrx htb (fun x hx => nomatch hx) (Nat.le_of_ble_eq_true rfl) (Nat.le_of_ble_eq_true rfl) (by rw [show (m_jump σ (nI j) p).1 = (-10000002) from jump_2 hj c1 hs]; exact RfX.d hx9 H.ext (by decide))
    | some q =>
      have hs := has_s (σ := σ) rfl H.hh hj hr
      by_cases c1 : k_inR p (-999) (nI 999) = 0
      · refine J_aload_n X (dt tX1_jumps 0 rfl) 0 rfl ?_
        refine J_iload_n X (dt tX1_jumps 1 rfl) 1 rfl ?_
        refine J_callVW (rest := []) X (T := TX1) (dt tX1_jumps 2 rfl) (c_TinY l D _ H.ct H.ln hj) (lw_VW q380 q381 q382 q70 q383) okX1_in rfl (Or.inl H.ct) rfl ⟨Nat.le_of_ble_eq_true rfl, Nat.le_of_ble_eq_true rfl⟩ rfl (Nat.le_of_ble_eq_true rfl) (Nat.le_of_ble_eq_true rfl) (Nat.le_of_ble_eq_true rfl) (fun v9 h9 hp9 => ?_) (fun _ _ _ z => z.elim)
        obtain ⟨rfl, e9⟩ := hp9
        rw [e9]
        show J Γ h 4 240 5 [(0, .ref t), (1, .int (nI j)), (2, .int p)] [va_rf (ru j)]
        refine J_topq (rf_s hr) ?_
        refine J_astore_n X (lv2 := [(3, .ref q), (0, .ref t), (1, .int (nI j)), (2, .int p)]) (dt tX1_jumps 3 rfl) rfl rfl rfl ?_
        refine J_iload_n X (dt tX1_jumps 4 rfl) 3 rfl ?_
        refine J_sipush X (-999) (dt tX1_jumps 5 rfl) (by decide) ?_
        refine J_sipush X (nI 999) (dt tX1_jumps 6 rfl) (by decide) ?_
        refine J_callSN (rest := []) X (dt tX1_jumps 7 rfl) (c_inR l D _ p (-999) (nI 999)) (lw_meth q489) q69 q487 q488 okX0_inRange rfl ⟨Nat.le_of_ble_eq_true rfl, Nat.le_of_ble_eq_true rfl⟩ rfl (Nat.le_of_ble_eq_true rfl) (Nat.le_of_ble_eq_true rfl) (Nat.le_of_ble_eq_true rfl) (fun v9 h9 hp9 => ?_)
        obtain ⟨rfl, e9⟩ := hp9
        rw [e9]
        show J Γ h 4 240 16 [(3, .ref q), (0, .ref t), (1, .int (nI j)), (2, .int p)] [.int (k_inR p (-999) (nI 999))]
        refine J_ldc X (dt tX1_jumps 8 rfl) q469 ?_
        refine J_callSNX (rest := []) X (dt tX1_jumps 9 rfl) (c_wantF l D _ (x := k_inR p (-999) (nI 999)) (c := (-10000001)) hl9 c1) (lw_meth q492) q69 q490 q491 okX0_want rfl ⟨Nat.le_of_ble_eq_true rfl, Nat.le_of_ble_eq_true rfl⟩ rfl (Nat.le_of_ble_eq_true rfl) (Nat.le_of_ble_eq_true rfl) (Nat.le_of_ble_eq_true rfl) (fun _ _ z => z.elim) (fun E9 q9 h9 hx9 => ?_)
        exact JX_out X hrx htb (fun x hx => nomatch hx) (Nat.le_of_ble_eq_true rfl) (Nat.le_of_ble_eq_true rfl) (by rw [show (m_jump σ (nI j) p).1 = (-10000001) from jump_1 hj c1]; exact RfX.d hx9 H.ext (by decide))
      · by_cases c3 : k_inR (σ.1 0 (9 + j) + p) (-1000000) 1000000 = 0
        · refine J_aload_n X (dt tX1_jumps 0 rfl) 0 rfl ?_
          refine J_iload_n X (dt tX1_jumps 1 rfl) 1 rfl ?_
          refine J_callVW (rest := []) X (T := TX1) (dt tX1_jumps 2 rfl) (c_TinY l D _ H.ct H.ln hj) (lw_VW q380 q381 q382 q70 q383) okX1_in rfl (Or.inl H.ct) rfl ⟨Nat.le_of_ble_eq_true rfl, Nat.le_of_ble_eq_true rfl⟩ rfl (Nat.le_of_ble_eq_true rfl) (Nat.le_of_ble_eq_true rfl) (Nat.le_of_ble_eq_true rfl) (fun v9 h9 hp9 => ?_) (fun _ _ _ z => z.elim)
          obtain ⟨rfl, e9⟩ := hp9
          rw [e9]
          show J Γ h 4 240 5 [(0, .ref t), (1, .int (nI j)), (2, .int p)] [va_rf (ru j)]
          refine J_topq (rf_s hr) ?_
          refine J_astore_n X (lv2 := [(3, .ref q), (0, .ref t), (1, .int (nI j)), (2, .int p)]) (dt tX1_jumps 3 rfl) rfl rfl rfl ?_
          refine J_iload_n X (dt tX1_jumps 4 rfl) 3 rfl ?_
          refine J_sipush X (-999) (dt tX1_jumps 5 rfl) (by decide) ?_
          refine J_sipush X (nI 999) (dt tX1_jumps 6 rfl) (by decide) ?_
          refine J_callSN (rest := []) X (dt tX1_jumps 7 rfl) (c_inR l D _ p (-999) (nI 999)) (lw_meth q489) q69 q487 q488 okX0_inRange rfl ⟨Nat.le_of_ble_eq_true rfl, Nat.le_of_ble_eq_true rfl⟩ rfl (Nat.le_of_ble_eq_true rfl) (Nat.le_of_ble_eq_true rfl) (Nat.le_of_ble_eq_true rfl) (fun v9 h9 hp9 => ?_)
          obtain ⟨rfl, e9⟩ := hp9
          rw [e9]
          show J Γ h 4 240 16 [(3, .ref q), (0, .ref t), (1, .int (nI j)), (2, .int p)] [.int (k_inR p (-999) (nI 999))]
          refine J_ldc X (dt tX1_jumps 8 rfl) q469 ?_
          refine J_callSN (rest := []) X (dt tX1_jumps 9 rfl) (c_wantT l D _ (x := k_inR p (-999) (nI 999)) (c := (-10000001)) c1) (lw_meth q492) q69 q490 q491 okX0_want rfl ⟨Nat.le_of_ble_eq_true rfl, Nat.le_of_ble_eq_true rfl⟩ rfl (Nat.le_of_ble_eq_true rfl) (Nat.le_of_ble_eq_true rfl) (Nat.le_of_ble_eq_true rfl) (fun v9 h9 hp9 => ?_)
          obtain ⟨rfl, e9⟩ := hp9
          rw [e9]
          show J Γ h 4 240 21 [(3, .ref q), (0, .ref t), (1, .int (nI j)), (2, .int p)] []
          refine J_aload_n X (dt tX1_jumps 10 rfl) 0 rfl ?_
          refine J_ifnull X (some q) 29 (dt tX1_jumps 11 rfl) (by decide) (fun c9 => by cases c9) (fun _ _ => ?_)
          refine J_iconst X (nI 1) (dt tX1_jumps 12 rfl) (by decide) ?_
          refine J_goto X (tgt := 30) (dt tX1_jumps 13 rfl) (by decide) ?_
          refine J_ldc X (dt tX1_jumps 15 rfl) q498 ?_
          refine J_callSN (rest := []) X (dt tX1_jumps 16 rfl) (c_wantT l D _ (x := nI 1) (c := (-10000002)) (by decide)) (lw_meth q492) q69 q490 q491 okX0_want rfl ⟨Nat.le_of_ble_eq_true rfl, Nat.le_of_ble_eq_true rfl⟩ rfl (Nat.le_of_ble_eq_true rfl) (Nat.le_of_ble_eq_true rfl) (Nat.le_of_ble_eq_true rfl) (fun v9 h9 hp9 => ?_)
          obtain ⟨rfl, e9⟩ := hp9
          rw [e9]
          show J Γ h 4 240 35 [(3, .ref q), (0, .ref t), (1, .int (nI j)), (2, .int p)] []
          refine J_aload_n X (dt tX1_jumps 17 rfl) 0 rfl ?_
          refine g_X1_167_10 X (dt tX1_jumps 18 rfl) (H.cu hj hr) rfl ?_
          refine J_iload_n X (dt tX1_jumps 19 rfl) 3 rfl ?_
          refine J_iadd X (dt tX1_jumps 20 rfl) ?_
          refine J_ldc X (dt tX1_jumps 21 rfl) q1170 ?_
          refine J_ldc X (dt tX1_jumps 22 rfl) q1171 ?_
          refine J_callSN (rest := []) X (dt tX1_jumps 23 rfl) (c_inR l D _ ((σ.1 0 (9 + j)) + p) (-1000000) (1000000)) (lw_meth q489) q69 q487 q488 okX0_inRange rfl ⟨Nat.le_of_ble_eq_true rfl, Nat.le_of_ble_eq_true rfl⟩ rfl (Nat.le_of_ble_eq_true rfl) (Nat.le_of_ble_eq_true rfl) (Nat.le_of_ble_eq_true rfl) (fun v9 h9 hp9 => ?_)
          obtain ⟨rfl, e9⟩ := hp9
          rw [e9]
          show J Γ h 4 240 48 [(3, .ref q), (0, .ref t), (1, .int (nI j)), (2, .int p)] [.int (k_inR ((σ.1 0 (9 + j)) + p) (-1000000) (1000000))]
          refine J_ldc X (dt tX1_jumps 24 rfl) q1172 ?_
          refine J_callSNX (rest := []) X (dt tX1_jumps 25 rfl) (c_wantF l D _ (x := k_inR ((σ.1 0 (9 + j)) + p) (-1000000) (1000000)) (c := (-10000003)) hl9 c3) (lw_meth q492) q69 q490 q491 okX0_want rfl ⟨Nat.le_of_ble_eq_true rfl, Nat.le_of_ble_eq_true rfl⟩ rfl (Nat.le_of_ble_eq_true rfl) (Nat.le_of_ble_eq_true rfl) (Nat.le_of_ble_eq_true rfl) (fun _ _ z => z.elim) (fun E9 q9 h9 hx9 => ?_)
          exact JX_out X hrx htb (fun x hx => nomatch hx) (Nat.le_of_ble_eq_true rfl) (Nat.le_of_ble_eq_true rfl) (by rw [show (m_jump σ (nI j) p).1 = (-10000003) from jump_3 hj c1 hs c3]; exact RfX.d hx9 H.ext (by decide))
        · have hm := jump_4 (σ := σ) hj c1 hs c3
          have r1 := k_inR_iff.mp c3
          refine J_aload_n X (dt tX1_jumps 0 rfl) 0 rfl ?_
          refine J_iload_n X (dt tX1_jumps 1 rfl) 1 rfl ?_
          refine J_callVW (rest := []) X (T := TX1) (dt tX1_jumps 2 rfl) (c_TinY l D _ H.ct H.ln hj) (lw_VW q380 q381 q382 q70 q383) okX1_in rfl (Or.inl H.ct) rfl ⟨Nat.le_of_ble_eq_true rfl, Nat.le_of_ble_eq_true rfl⟩ rfl (Nat.le_of_ble_eq_true rfl) (Nat.le_of_ble_eq_true rfl) (Nat.le_of_ble_eq_true rfl) (fun v9 h9 hp9 => ?_) (fun _ _ _ z => z.elim)
          obtain ⟨rfl, e9⟩ := hp9
          rw [e9]
          show J Γ h 4 240 5 [(0, .ref t), (1, .int (nI j)), (2, .int p)] [va_rf (ru j)]
          refine J_topq (rf_s hr) ?_
          refine J_astore_n X (lv2 := [(3, .ref q), (0, .ref t), (1, .int (nI j)), (2, .int p)]) (dt tX1_jumps 3 rfl) rfl rfl rfl ?_
          refine J_iload_n X (dt tX1_jumps 4 rfl) 3 rfl ?_
          refine J_sipush X (-999) (dt tX1_jumps 5 rfl) (by decide) ?_
          refine J_sipush X (nI 999) (dt tX1_jumps 6 rfl) (by decide) ?_
          refine J_callSN (rest := []) X (dt tX1_jumps 7 rfl) (c_inR l D _ p (-999) (nI 999)) (lw_meth q489) q69 q487 q488 okX0_inRange rfl ⟨Nat.le_of_ble_eq_true rfl, Nat.le_of_ble_eq_true rfl⟩ rfl (Nat.le_of_ble_eq_true rfl) (Nat.le_of_ble_eq_true rfl) (Nat.le_of_ble_eq_true rfl) (fun v9 h9 hp9 => ?_)
          obtain ⟨rfl, e9⟩ := hp9
          rw [e9]
          show J Γ h 4 240 16 [(3, .ref q), (0, .ref t), (1, .int (nI j)), (2, .int p)] [.int (k_inR p (-999) (nI 999))]
          refine J_ldc X (dt tX1_jumps 8 rfl) q469 ?_
          refine J_callSN (rest := []) X (dt tX1_jumps 9 rfl) (c_wantT l D _ (x := k_inR p (-999) (nI 999)) (c := (-10000001)) c1) (lw_meth q492) q69 q490 q491 okX0_want rfl ⟨Nat.le_of_ble_eq_true rfl, Nat.le_of_ble_eq_true rfl⟩ rfl (Nat.le_of_ble_eq_true rfl) (Nat.le_of_ble_eq_true rfl) (Nat.le_of_ble_eq_true rfl) (fun v9 h9 hp9 => ?_)
          obtain ⟨rfl, e9⟩ := hp9
          rw [e9]
          show J Γ h 4 240 21 [(3, .ref q), (0, .ref t), (1, .int (nI j)), (2, .int p)] []
          refine J_aload_n X (dt tX1_jumps 10 rfl) 0 rfl ?_
          refine J_ifnull X (some q) 29 (dt tX1_jumps 11 rfl) (by decide) (fun c9 => by cases c9) (fun _ _ => ?_)
          refine J_iconst X (nI 1) (dt tX1_jumps 12 rfl) (by decide) ?_
          refine J_goto X (tgt := 30) (dt tX1_jumps 13 rfl) (by decide) ?_
          refine J_ldc X (dt tX1_jumps 15 rfl) q498 ?_
          refine J_callSN (rest := []) X (dt tX1_jumps 16 rfl) (c_wantT l D _ (x := nI 1) (c := (-10000002)) (by decide)) (lw_meth q492) q69 q490 q491 okX0_want rfl ⟨Nat.le_of_ble_eq_true rfl, Nat.le_of_ble_eq_true rfl⟩ rfl (Nat.le_of_ble_eq_true rfl) (Nat.le_of_ble_eq_true rfl) (Nat.le_of_ble_eq_true rfl) (fun v9 h9 hp9 => ?_)
          obtain ⟨rfl, e9⟩ := hp9
          rw [e9]
          show J Γ h 4 240 35 [(3, .ref q), (0, .ref t), (1, .int (nI j)), (2, .int p)] []
          refine J_aload_n X (dt tX1_jumps 17 rfl) 0 rfl ?_
          refine g_X1_167_10 X (dt tX1_jumps 18 rfl) (H.cu hj hr) rfl ?_
          refine J_iload_n X (dt tX1_jumps 19 rfl) 3 rfl ?_
          refine J_iadd X (dt tX1_jumps 20 rfl) ?_
          refine J_ldc X (dt tX1_jumps 21 rfl) q1170 ?_
          refine J_ldc X (dt tX1_jumps 22 rfl) q1171 ?_
          refine J_callSN (rest := []) X (dt tX1_jumps 23 rfl) (c_inR l D _ ((σ.1 0 (9 + j)) + p) (-1000000) (1000000)) (lw_meth q489) q69 q487 q488 okX0_inRange rfl ⟨Nat.le_of_ble_eq_true rfl, Nat.le_of_ble_eq_true rfl⟩ rfl (Nat.le_of_ble_eq_true rfl) (Nat.le_of_ble_eq_true rfl) (Nat.le_of_ble_eq_true rfl) (fun v9 h9 hp9 => ?_)
          obtain ⟨rfl, e9⟩ := hp9
          rw [e9]
          show J Γ h 4 240 48 [(3, .ref q), (0, .ref t), (1, .int (nI j)), (2, .int p)] [.int (k_inR ((σ.1 0 (9 + j)) + p) (-1000000) (1000000))]
          refine J_ldc X (dt tX1_jumps 24 rfl) q1172 ?_
          refine J_callSN (rest := []) X (dt tX1_jumps 25 rfl) (c_wantT l D _ (x := k_inR ((σ.1 0 (9 + j)) + p) (-1000000) (1000000)) (c := (-10000003)) c3) (lw_meth q492) q69 q490 q491 okX0_want rfl ⟨Nat.le_of_ble_eq_true rfl, Nat.le_of_ble_eq_true rfl⟩ rfl (Nat.le_of_ble_eq_true rfl) (Nat.le_of_ble_eq_true rfl) (Nat.le_of_ble_eq_true rfl) (fun v9 h9 hp9 => ?_)
          obtain ⟨rfl, e9⟩ := hp9
          rw [e9]
          show J Γ h 4 240 53 [(3, .ref q), (0, .ref t), (1, .int (nI j)), (2, .int p)] []
          refine J_aload_n X (dt tX1_jumps 26 rfl) 0 rfl ?_
          refine J_dup X (dt tX1_jumps 27 rfl) rfl ?_
          refine g_X1_167_10 X (dt tX1_jumps 28 rfl) (H.cu hj hr) rfl ?_
          refine J_iload_n X (dt tX1_jumps 29 rfl) 3 rfl ?_
          refine J_iadd X (dt tX1_jumps 30 rfl) ?_
          refine p_X1_167_10 X (fs2 := [.int (nI j), .int ((σ.1 0 (9 + j)) + p), .int (σ.1 0 (17 + j)), .int (σ.1 0 (25 + j))]) (dt tX1_jumps 31 rfl) (H.cu hj hr) rfl rfl rfl rfl ?_
          refine J_aload_n X (dt tX1_jumps 32 rfl) 1 rfl ?_
          refine J_iload_n X (dt tX1_jumps 33 rfl) 2 rfl ?_
          have HC : TK b (pu h q (eo 10 [.int (nI j), .int ((σ.1 0 (9 + j)) + p), .int (σ.1 0 (17 + j)), .int (σ.1 0 (25 + j))])) t T rc ru (fun i => i ≠ j / 2 ∧ i ≠ 4 + j / 4 ∧ i ≠ 6) ((sA σ 0 (upd (σ.1 0) (9 + j) (σ.1 0 (9 + j) + p))).1 0) := (TK.jump H hj hr r1).mono (fun _ _ _ => trivial)
          refine J_callVR (rest := []) X (T := TX1) (dt tX1_jumps 34 rfl) (c_Tfrom l D _ (σ := sA σ 0 (upd (σ.1 0) (9 + j) (σ.1 0 (9 + j) + p))) (j := j) HC hj) (lw_V q524 q526 qs4 q70 q527) okX1_runsFrom rfl (Or.inl (pu_o (ne_c H.ct (H.cu hj hr) (by decide)) H.ct)) rfl ⟨Nat.le_of_ble_eq_true rfl, Nat.le_of_ble_eq_true rfl⟩ rfl (Nat.le_of_ble_eq_true rfl) (Nat.le_of_ble_eq_true rfl) (Nat.le_of_ble_eq_true rfl) (fun v9 g1 hp9 => ?_)
          obtain ⟨rfl, H2⟩ := hp9
          show J Γ g1 6 245 68 [(3, .ref q), (0, .ref t), (1, .int (nI j)), (2, .int p)] []
          have hne : ¬ (m_forT (sA σ 0 (upd (σ.1 0) (9 + j) (σ.1 0 (9 + j) + p))) j).1 0 39 = -1 := led_ne (σ := sA σ 0 (upd (σ.1 0) (9 + j) (σ.1 0 (9 + j) + p))) HC.wf hj (has_s (σ := sA σ 0 (upd (σ.1 0) (9 + j) (σ.1 0 (9 + j) + p))) rfl HC.hh hj hr)
          obtain ⟨wn2, ot2, un2, hc2, hl2, hp2⟩ := H2
          have H2 : TK b g1 t T rc ru Al ((m_forT (sA σ 0 (upd (σ.1 0) (9 + j) (σ.1 0 (9 + j) + p))) j).1 0) := ⟨wn2, ot2, un2, hc2, hl2, hp2⟩
          rcases TK.leader hc2 hp2 trivial with ⟨c1, c2⟩ | ⟨i, qi, hi, ei, hru, c1, hq⟩
          · exact absurd c2 hne
          · refine J_aload_n X (dt tX1_jumps 35 rfl) 1 rfl ?_
            refine J_callVR (rest := []) X (T := TX1) (dt tX1_jumps 36 rfl) (c_Tleader l D _ hc2) (lw_V q587 q588 q589 q70 q590) okX1_leader rfl (Or.inl hc2.ct) rfl ⟨Nat.le_of_ble_eq_true rfl, Nat.le_of_ble_eq_true rfl⟩ rfl (Nat.le_of_ble_eq_true rfl) (Nat.le_of_ble_eq_true rfl) (Nat.le_of_ble_eq_true rfl) (fun v9 h9 hp9 => ?_)
            obtain ⟨rfl, e9⟩ := hp9
            rw [e9]
            show J Γ g1 6 245 72 [(3, .ref q), (0, .ref t), (1, .int (nI j)), (2, .int p)] [va_rf (wn2 6)]
            refine J_topq (rf_s c1) ?_
            refine J_callS (rest := []) X (dt tX1_jumps 37 rfl) (c_laneR l D _ hq) (lw_S q670 q671 q70 q672) okX1_laneOf rfl ⟨Nat.le_of_ble_eq_true rfl, Nat.le_of_ble_eq_true rfl⟩ rfl (Nat.le_of_ble_eq_true rfl) (Nat.le_of_ble_eq_true rfl) (Nat.le_of_ble_eq_true rfl) (fun v9 h9 hp9 => ?_)
            obtain ⟨rfl, e9⟩ := hp9
            rw [e9]
            show J Γ g1 6 245 75 [(3, .ref q), (0, .ref t), (1, .int (nI j)), (2, .int p)] [.int ((m_forT (sA σ 0 (upd (σ.1 0) (9 + j) (σ.1 0 (9 + j) + p))) j).1 0 39)]
            exact J_iret X rr (dt tX1_jumps 38 rfl) (Nat.le_of_ble_eq_true rfl) (Nat.le_of_ble_eq_true rfl) (by rw [hm]; exact ⟨rfl, (show -10000001 < (m_forT (sA σ 0 (upd (σ.1 0) (9 + j) (σ.1 0 (9 + j) + p))) j).1 0 39 from by rw [ei]; exact gt_nI (by omega)), T, rc, _, H2⟩)
  · refine J_aload_n X (dt tX1_jumps 0 rfl) 0 rfl ?_
    refine J_iload_n X (dt tX1_jumps 1 rfl) 1 rfl ?_
    refine J_callVW (rest := []) X (T := TX1) (dt tX1_jumps 2 rfl) (c_TinN l D _ H.ct H.ln hl9 (out8 hx)) (lw_VW q380 q381 q382 q70 q383) okX1_in rfl (Or.inl H.ct) rfl ⟨Nat.le_of_ble_eq_true rfl, Nat.le_of_ble_eq_true rfl⟩ rfl (Nat.le_of_ble_eq_true rfl) (Nat.le_of_ble_eq_true rfl) (Nat.le_of_ble_eq_true rfl) (fun _ _ z => z.elim) (fun E9 q9 h9 hx9 => ?_)
    exact JX_out X hrx htb (fun x hx => nomatch hx) (Nat.le_of_ble_eq_true rfl) (Nat.le_of_ble_eq_true rfl) (by rw [show (m_jump σ x p).1 = -10000001 from m_jump_out hx]; exact RfX.d hx9 H.ext (by decide))
