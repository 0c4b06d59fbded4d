/-! printed by gen/compw.py -/
set_option maxRecDepth 100000
theorem q70 : (Jvm.Cond.initialized "LeadRaces$Track") ∈ lw_all := lw_g (lw_at lw_m1 2 rfl) rfl
theorem q126 : (Jvm.Cond.classLink "LeadRaces$Track" (9 : Nat) "LeadRaces$Runner") ∈ lw_all := lw_g (lw_at lw_m1 58 rfl) rfl
theorem q182 : (Jvm.Cond.fieldLink "LeadRaces$Track" (11 : Nat) "LeadRaces$Track" "lanes" "[LLeadRaces$Runner;") ∈ lw_all := lw_g (lw_at lw_m1 114 rfl) rfl
theorem q184 : (Jvm.Cond.fieldLink "LeadRaces$Track" (20 : Nat) "LeadRaces$Track" "races" "Ljava/util/ArrayList;") ∈ lw_all := lw_g (lw_at lw_m1 116 rfl) rfl
theorem q188 : (Jvm.Cond.fieldLink "LeadRaces$Track" (82 : Nat) "LeadRaces$Track" "time" "I") ∈ lw_all := lw_g (lw_at lw_m1 120 rfl) rfl
theorem q207 : (Jvm.Cond.classLink "LeadRaces$Track" (31 : Nat) "LeadRaces$Race") ∈ lw_all := lw_g (lw_at lw_m1 139 rfl) rfl
theorem q215 : (Jvm.Cond.fieldLinkNest "LeadRaces$Track" (61 : Nat) "LeadRaces$Race" "winner" "LLeadRaces$Racing;" "LeadRaces") ∈ lw_tbl := lw_at lw_m1 147 rfl
theorem q222 : (Jvm.Cond.fieldLinkNest "LeadRaces$Track" (173 : Nat) "LeadRaces$Race" "until" "J" "LeadRaces") ∈ lw_tbl := lw_at lw_m1 154 rfl
theorem q505 : (Jvm.Cond.fieldLinkNest "LeadRaces$Track" (38 : Nat) "LeadRaces$Runner" "lane" "I" "LeadRaces") ∈ lw_tbl := lw_at lw_m2 197 rfl
theorem q532 : (Jvm.Cond.methodLink "LeadRaces$Track" (96 : Nat) ({ cls := "java/util/ArrayList", name := "get", desc := "(I)Ljava/lang/Object;" } : Jvm.MethodName)) ∈ lw_all := lw_g (lw_at lw_m2 224 rfl) rfl
theorem q533 : (Jvm.Cond.instanceMethod ({ cls := "java/util/ArrayList", name := "get", desc := "(I)Ljava/lang/Object;" } : Jvm.MethodName)) ∈ lw_all := lw_g (lw_at lw_m2 225 rfl) rfl
theorem q534 : (Jvm.Cond.selects "java/util/ArrayList" ({ cls := "java/util/ArrayList", name := "get", desc := "(I)Ljava/lang/Object;" } : Jvm.MethodName) ({ cls := "java/util/ArrayList", name := "get", desc := "(I)Ljava/lang/Object;" } : Jvm.MethodName)) ∈ lw_all := lw_g (lw_at lw_m2 226 rfl) rfl
theorem q535 : (Jvm.Cond.code ({ cls := "java/util/ArrayList", name := "get", desc := "(I)Ljava/lang/Object;" } : Jvm.MethodName) prog_44_method_20_code (2 : Nat) (Option.some (Jvm.ClassFile.FieldType.object "java/lang/Object"))) ∈ lw_all := lw_g (lw_at lw_m2 227 rfl) rfl
theorem q546 : (Jvm.Cond.methodLink "LeadRaces$Track" (100 : Nat) ({ cls := "LeadRaces$Track", name := "side", desc := "(II)LLeadRaces$Runner;" } : Jvm.MethodName)) ∈ lw_all := lw_g (lw_at lw_m2 238 rfl) rfl
theorem q548 : (Jvm.Cond.instanceMethod ({ cls := "LeadRaces$Track", name := "side", desc := "(II)LLeadRaces$Runner;" } : Jvm.MethodName)) ∈ lw_all := lw_g (lw_at lw_m3 0 rfl) rfl
theorem q549 : (Jvm.Cond.code ({ cls := "LeadRaces$Track", name := "side", desc := "(II)LLeadRaces$Runner;" } : Jvm.MethodName) prog_10_method_7_code (3 : Nat) (Option.some (Jvm.ClassFile.FieldType.object "LeadRaces$Runner"))) ∈ lw_all := lw_g (lw_at lw_m3 1 rfl) rfl
theorem q550 : (Jvm.Cond.methodLink "LeadRaces$Track" (104 : Nat) ({ cls := "LeadRaces$Race", name := "runs", desc := "(LLeadRaces$Racing;LLeadRaces$Racing;I)Z" } : Jvm.MethodName)) ∈ lw_all := lw_g (lw_at lw_m3 2 rfl) rfl
theorem q551 : (Jvm.Cond.instanceMethod ({ cls := "LeadRaces$Race", name := "runs", desc := "(LLeadRaces$Racing;LLeadRaces$Racing;I)Z" } : Jvm.MethodName)) ∈ lw_all := lw_g (lw_at lw_m3 3 rfl) rfl
theorem q552 : (Jvm.Cond.selects "LeadRaces$Race" ({ cls := "LeadRaces$Race", name := "runs", desc := "(LLeadRaces$Racing;LLeadRaces$Racing;I)Z" } : Jvm.MethodName) ({ cls := "LeadRaces$Race", name := "runs", desc := "(LLeadRaces$Racing;LLeadRaces$Racing;I)Z" } : Jvm.MethodName)) ∈ lw_all := lw_g (lw_at lw_m3 4 rfl) rfl
theorem q553 : (Jvm.Cond.code ({ cls := "LeadRaces$Race", name := "runs", desc := "(LLeadRaces$Racing;LLeadRaces$Racing;I)Z" } : Jvm.MethodName) prog_5_method_2_code (8 : Nat) (Option.some Jvm.ClassFile.FieldType.boolean)) ∈ lw_all := lw_g (lw_at lw_m3 5 rfl) rfl
theorem q673 : (Jvm.Cond.constant "LeadRaces$Track" (136 : Nat) (-10000004 : Int32)) ∈ lw_all := lw_g (lw_at lw_m3 125 rfl) rfl
section
variable {l : Launch} {D : va_G} {cc : ByteArray} {nL : Nat} {rm : Room} {Γ : Cxt} {h : PH} {k n pc nx : Nat} {lv : List (Nat × Value)} {st : List Value}
theorem g_X1_20_1 (X : Cx l D cc RX1 nL rm Γ) {a : Nat} {fs : List Value} {v : Value} (d : At cc pc (.getfield 20) 3 nx) (ha : h a = some (eo 1 fs)) (hv : fs[1]? = some v) (kk : J Γ h k n nx lv (v :: st)) : J Γ h k n pc lv (.ref a :: st) := J_get X (kf := 1) d ha (show vwCl[1]? = some (RX1, TX1, 5) from rfl) in_X1 rfl q184 rfl hv kk
theorem g_X1_61_4 (X : Cx l D cc RX1 nL rm Γ) {a : Nat} {fs : List Value} {v : Value} (d : At cc pc (.getfield 61) 3 nx) (ha : h a = some (eo 4 fs)) (hv : fs[0]? = some v) (kk : J Γ h k n nx lv (v :: st)) : J Γ h k n pc lv (.ref a :: st) := J_getN X (kf := 0) d ha (show vwCl[4]? = some (RX2, TX2, 5) from rfl) in_X2 rfl q215 rfl hv kk
theorem g_X1_11_1 (X : Cx l D cc RX1 nL rm Γ) {a : Nat} {fs : List Value} {v : Value} (d : At cc pc (.getfield 11) 3 nx) (ha : h a = some (eo 1 fs)) (hv : fs[0]? = some v) (kk : J Γ h k n nx lv (v :: st)) : J Γ h k n pc lv (.ref a :: st) := J_get X (kf := 0) d ha (show vwCl[1]? = some (RX1, TX1, 5) from rfl) in_X1 rfl q182 rfl hv kk
theorem g_X1_38_10 (X : Cx l D cc RX1 nL rm Γ) {a : Nat} {fs : List Value} {v : Value} (d : At cc pc (.getfield 38) 3 nx) (ha : h a = some (eo 10 fs)) (hv : fs[0]? = some v) (kk : J Γ h k n nx lv (v :: st)) : J Γ h k n pc lv (.ref a :: st) := J_getN X (kf := 0) d ha (show vwCl[10]? = some (RX5, TX5, 4) from rfl) in_X5 rfl q505 rfl hv kk
theorem g_X1_173_4 (X : Cx l D cc RX1 nL rm Γ) {a : Nat} {fs : List Value} {v : Value} (d : At cc pc (.getfield 173) 3 nx) (ha : h a = some (eo 4 fs)) (hv : fs[2]? = some v) (kk : J Γ h k n nx lv (v :: st)) : J Γ h k n pc lv (.ref a :: st) := J_getN X (kf := 2) d ha (show vwCl[4]? = some (RX2, TX2, 5) from rfl) in_X2 rfl q222 rfl hv kk
theorem g_X1_82_1 (X : Cx l D cc RX1 nL rm Γ) {a : Nat} {fs : List Value} {v : Value} (d : At cc pc (.getfield 82) 3 nx) (ha : h a = some (eo 1 fs)) (hv : fs[3]? = some v) (kk : J Γ h k n nx lv (v :: st)) : J Γ h k n pc lv (.ref a :: st) := J_get X (kf := 3) d ha (show vwCl[1]? = some (RX1, TX1, 5) from rfl) in_X1 rfl q188 rfl hv kk
end
section JQ
variable {l : Launch} {D : va_G} {cc : ByteArray} {own : String} {nL : Nat} {rm : Room} {Γ : Cxt} {h : PH} {k n pc nx : Nat} {lv : List (Nat × Value)} {st : List Value}
theorem J_castq (X : Cx l D cc own nL rm Γ) {ix ci N : Nat} {T : u_T} {C : String} {r : Option Nat} (d : At cc pc (.checkcast ix) 3 nx) (hr : ∀ a, r = some a → ∃ fs, h a = some (eo ci fs)) (hc : vwCl[ci]? = some (C, T, N)) (hlink : Cond.classLink own ix C ∈ lw_all) (kk : J Γ h k n nx lv (va_rf r :: st)) : J Γ h k n pc lv (va_rf r :: st) := by
  cases r with
  | none => exact J_castN X d kk
  | some a =>
    obtain ⟨fs, hf⟩ := hr a rfl
    exact J_castS X d (Or.inl hf) hc hlink kk
end JQ
abbrev cX1_leader : ByteArray := prog_10_method_6_code
def yX1_leader : MethodName := ⟨RX1, "leader", "()LLeadRaces$Runner;"⟩
theorem tX1_leader : dtab cX1_leader [(0, .aload_n 0, 1, 1), (1, .getfield 20, 3, 4), (4, .bipush 6, 2, 6), (6, .invokevirtual 96, 3, 9), (9, .checkcast 31, 3, 12), (12, .getfield 61, 3, 15), (15, .checkcast 9, 3, 18), (18, .areturn, 1, 19)] := by unfold dtab; decide +kernel
theorem okX1_leader : okY yX1_leader 0 := by decide +kernel
set_option maxHeartbeats 4000000 in
theorem c_Tleader (l : Launch) (D : va_G) (h : PH) {b : PH} {t : Nat} {T rc : Nat → Nat} {ru wn ot : Nat → Option Nat} {un : Nat → Int64} {a : Nat → Int32}  (hc : Tc b h t T rc ru wn ot un a) : Ct l D yX1_leader cX1_leader 1 (some (.object "LeadRaces$Runner")) (rmC 3 64 0 0) [.ref t] h (PS h (some (va_rf (wn 6)))) := by
  refine Ct.of (by decide) rfl (fun Γ X rr hmn => ?_)
  have X : Cx l D cX1_leader RX1 1 (rmC 3 64 0 0) Γ := X
  show J Γ h 0 0 0 [(0, .ref t)] []
  refine J_aload_n X (dt tX1_leader 0 rfl) 0 rfl ?_
  refine g_X1_20_1 X (dt tX1_leader 1 rfl) hc.ct rfl ?_
  refine J_bipush X (nI 6) (dt tX1_leader 2 rfl) (by decide) ?_
  refine J_callVR (rest := []) X (T := TJ2) (dt tX1_leader 3 rfl) (c_LAget l D _ hc.rl hc.ea (by decide) (by decide) (by decide)) (lw_V q532 q533 q534 q73 q535) okJ2_get rfl (Or.inl hc.rl) rfl ⟨Nat.le_of_ble_eq_true rfl, Nat.le_of_ble_eq_true rfl⟩ rfl (Nat.le_of_ble_eq_true rfl) (Nat.le_of_ble_eq_true rfl) (Nat.le_of_ble_eq_true rfl) (fun v9 h9 hp9 => ?_)
  obtain ⟨rfl, e9⟩ := hp9
  rw [e9]
  show J Γ h 0 0 9 [(0, .ref t)] [va_rf ((fT rc) 6)]
  refine J_topq (rf_s (if_pos (by omega))) ?_
  refine J_castS X (C := RX2) (T := TX2) (dt tX1_leader 4 rfl) (Or.inl (hc.cr (i := 6) (by omega))) rfl q207 ?_
  refine g_X1_61_4 X (dt tX1_leader 5 rfl) (hc.cr (i := 6) (by omega)) rfl ?_
  refine J_castq X (C := RX5) (T := TX5) (dt tX1_leader 6 rfl) (fun q9 hq9 => hc.wq (by omega) (Or.inl hq9)) rfl q126 ?_
  exact J_aret X rr (dt tX1_leader 7 rfl) (Nat.le_of_ble_eq_true rfl) (Nat.le_of_ble_eq_true rfl) (Or.inl ⟨_, rfl⟩) (isr_q _) ⟨rfl, rfl⟩
abbrev cX1_side : ByteArray := prog_10_method_7_code
def yX1_side : MethodName := ⟨RX1, "side", "(II)LLeadRaces$Runner;"⟩
theorem tX1_side : dtab cX1_side [(0, .iload_n 1, 1, 1), (1, .iconst 4, 1, 2), (2, .if_icmp .ge 16, 3, 5), (5, .aload_n 0, 1, 6), (6, .getfield 11, 3, 9), (9, .iconst 2, 1, 10), (10, .iload_n 1, 1, 11), (11, .imul, 1, 12), (12, .iload_n 2, 1, 13), (13, .iadd, 1, 14), (14, .aaload, 1, 15), (15, .goto 26, 3, 18), (18, .aload_n 0, 1, 19), (19, .getfield 20, 3, 22), (22, .iconst 2, 1, 23), (23, .iload_n 1, 1, 24), (24, .iconst 4, 1, 25), (25, .isub, 1, 26), (26, .imul, 1, 27), (27, .iload_n 2, 1, 28), (28, .iadd, 1, 29), (29, .invokevirtual 96, 3, 32), (32, .checkcast 31, 3, 35), (35, .getfield 61, 3, 38), (38, .checkcast 9, 3, 41), (41, .areturn, 1, 42)] := by unfold dtab; decide +kernel
theorem okX1_side : okY yX1_side 2 := by decide +kernel
set_option maxHeartbeats 4000000 in
theorem c_Tside (l : Launch) (D : va_G) (h : PH) {b : PH} {t : Nat} {T rc : Nat → Nat} {ru wn ot : Nat → Option Nat} {un : Nat → Int64} {a : Nat → Int32} {r k : Nat}  (hc : Tc b h t T rc ru wn ot un a) (hr : r < 7) (hk : k < 2) : Ct l D yX1_side cX1_side 3 (some (.object "LeadRaces$Runner")) (rmC 3 64 0 0) [.ref t, .int (nI r), .int (nI k)] h (PS h (some (va_rf (sd ru wn r k)))) := by
  refine Ct.of (by decide) rfl (fun Γ X rr hmn => ?_)
  have X : Cx l D cX1_side RX1 3 (rmC 3 64 0 0) Γ := X
  show J Γ h 0 0 0 [(0, .ref t), (1, .int (nI r)), (2, .int (nI k))] []
  by_cases h4 : r < 4
  · refine J_iload_n X (dt tX1_side 0 rfl) 1 rfl ?_
    refine J_iconst X (nI 4) (dt tX1_side 1 rfl) (by decide) ?_
    refine J_icmp_ge X 18 (dt tX1_side 2 rfl) (by decide) (fun c9 => absurd c9 (nI_ge h4 (by omega))) (fun _ => ?_)
    refine J_aload_n X (dt tX1_side 3 rfl) 0 rfl ?_
    refine g_X1_11_1 X (dt tX1_side 4 rfl) hc.ct rfl ?_
    refine J_iconst X (nI 2) (dt tX1_side 5 rfl) (by decide) ?_
    refine J_iload_n X (dt tX1_side 6 rfl) 1 rfl ?_
    refine J_imulN X (dt tX1_side 7 rfl) ?_
    refine J_iload_n X (dt tX1_side 8 rfl) 2 rfl ?_
    refine J_iaddN X (dt tX1_side 9 rfl) ?_
    refine J_rald X (dt tX1_side 10 rfl) hc.ln (by omega) (by decide) ?_
    refine J_goto X (tgt := 41) (dt tX1_side 11 rfl) (by decide) ?_
    exact J_aret X rr (dt tX1_side 25 rfl) (Nat.le_of_ble_eq_true rfl) (Nat.le_of_ble_eq_true rfl) (Or.inl ⟨_, rfl⟩) (isr_q _) ⟨congrArg (fun z => some (va_rf z)) (if_pos h4).symm, rfl⟩
  · refine J_iload_n X (dt tX1_side 0 rfl) 1 rfl ?_
    refine J_iconst X (nI 4) (dt tX1_side 1 rfl) (by decide) ?_
    refine J_icmp_ge X 18 (dt tX1_side 2 rfl) (by decide) (fun _ => ?_) (fun c9 => absurd (nI_le (by omega) (by omega)) c9)
    refine J_aload_n X (dt tX1_side 12 rfl) 0 rfl ?_
    refine g_X1_20_1 X (dt tX1_side 13 rfl) hc.ct rfl ?_
    refine J_iconst X (nI 2) (dt tX1_side 14 rfl) (by decide) ?_
    refine J_iload_n X (dt tX1_side 15 rfl) 1 rfl ?_
    refine J_iconst X (nI 4) (dt tX1_side 16 rfl) (by decide) ?_
    refine J_isubN X (dt tX1_side 17 rfl) (by omega) ?_
    refine J_imulN X (dt tX1_side 18 rfl) ?_
    refine J_iload_n X (dt tX1_side 19 rfl) 2 rfl ?_
    refine J_iaddN X (dt tX1_side 20 rfl) ?_
    refine J_callVR (rest := []) X (T := TJ2) (dt tX1_side 21 rfl) (c_LAget l D _ hc.rl hc.ea (by omega) (by decide) (by decide)) (lw_V q532 q533 q534 q73 q535) okJ2_get rfl (Or.inl hc.rl) rfl ⟨Nat.le_of_ble_eq_true rfl, Nat.le_of_ble_eq_true rfl⟩ rfl (Nat.le_of_ble_eq_true rfl) (Nat.le_of_ble_eq_true rfl) (Nat.le_of_ble_eq_true rfl) (fun v9 h9 hp9 => ?_)
    obtain ⟨rfl, e9⟩ := hp9
    rw [e9]
    show J Γ h 0 0 32 [(0, .ref t), (1, .int (nI r)), (2, .int (nI k))] [va_rf ((fT rc) ((2 * (r - 4)) + k))]
    refine J_topq (rf_s (if_pos (by omega))) ?_
    refine J_castS X (C := RX2) (T := TX2) (dt tX1_side 22 rfl) (Or.inl (hc.cr (i := 2 * (r - 4) + k) (by omega))) rfl q207 ?_
    refine g_X1_61_4 X (dt tX1_side 23 rfl) (hc.cr (i := 2 * (r - 4) + k) (by omega)) rfl ?_
    refine J_castq X (C := RX5) (T := TX5) (dt tX1_side 24 rfl) (fun q9 hq9 => hc.wq (by omega) (Or.inl hq9)) rfl q126 ?_
    exact J_aret X rr (dt tX1_side 25 rfl) (Nat.le_of_ble_eq_true rfl) (Nat.le_of_ble_eq_true rfl) (Or.inl ⟨_, rfl⟩) (isr_q _) ⟨congrArg (fun z => some (va_rf z)) (if_neg h4).symm, rfl⟩
abbrev cX1_laneOf : ByteArray := prog_10_method_11_code
def yX1_laneOf : MethodName := ⟨RX1, "laneOf", "(LLeadRaces$Runner;)I"⟩
theorem tX1_laneOf : dtab cX1_laneOf [(0, .aload_n 0, 1, 1), (1, .ifnonnull 8, 3, 4), (4, .ldc 136, 2, 6), (6, .goto 7, 3, 9), (9, .aload_n 0, 1, 10), (10, .getfield 38, 3, 13), (13, .ireturn, 1, 14)] := by unfold dtab; decide +kernel
theorem okX1_laneOf : okY yX1_laneOf 1 := by decide +kernel
set_option maxHeartbeats 4000000 in
theorem c_laneN (l : Launch) (D : va_G) (h : PH)    : Ct l D yX1_laneOf cX1_laneOf 1 (some .int) (rmC 0 0 0 0) [.null] h (PS h (some (.int (-10000004)))) := by
  refine Ct.of (by decide) rfl (fun Γ X rr hmn => ?_)
  have X : Cx l D cX1_laneOf RX1 1 (rmC 0 0 0 0) Γ := X
  show J Γ h 0 0 0 [(0, .null)] []
  refine J_aload_nN X (dt tX1_laneOf 0 rfl) 0 rfl ?_
  refine J_ifnonnull X none 9 (dt tX1_laneOf 1 rfl) (by decide) (fun _ c9 => by cases c9) (fun _ => ?_)
  refine J_ldc X (dt tX1_laneOf 2 rfl) q673 ?_
  refine J_goto X (tgt := 13) (dt tX1_laneOf 3 rfl) (by decide) ?_
  exact J_iret X rr (dt tX1_laneOf 6 rfl) (Nat.le_of_ble_eq_true rfl) (Nat.le_of_ble_eq_true rfl) ⟨rfl, rfl⟩
set_option maxHeartbeats 4000000 in
theorem c_laneR (l : Launch) (D : va_G) (h : PH) {q : Nat} {ln pl sp ld : Int32} (hq : h q = some (eo 10 [.int ln, .int pl, .int sp, .int ld]))  : Ct l D yX1_laneOf cX1_laneOf 1 (some .int) (rmC 0 0 0 0) [.ref q] h (PS h (some (.int ln))) := by
  refine Ct.of (by decide) rfl (fun Γ X rr hmn => ?_)
  have X : Cx l D cX1_laneOf RX1 1 (rmC 0 0 0 0) Γ := X
  show J Γ h 0 0 0 [(0, .ref q)] []
  refine J_aload_n X (dt tX1_laneOf 0 rfl) 0 rfl ?_
  refine J_ifnonnull X (some q) 9 (dt tX1_laneOf 1 rfl) (by decide) (fun _ _ => ?_) (fun c9 => by cases c9)
  refine J_aload_n X (dt tX1_laneOf 4 rfl) 0 rfl ?_
  refine g_X1_38_10 X (dt tX1_laneOf 5 rfl) hq rfl ?_
  exact J_iret X rr (dt tX1_laneOf 6 rfl) (Nat.le_of_ble_eq_true rfl) (Nat.le_of_ble_eq_true rfl) ⟨rfl, rfl⟩

abbrev cX1_mine : ByteArray := prog_10_method_3_code
def yX1_mine : MethodName := ⟨RX1, "mine", "(LLeadRaces$Runner;)LLeadRaces$Runner;"⟩
theorem tX1_mine : dtab cX1_mine [(0, .aload_n 1, 1, 1), (1, .ifnonnull 7, 3, 4), (4, .aconst_null, 1, 5), (5, .goto 12, 3, 8), (8, .aload_n 0, 1, 9), (9, .getfield 11, 3, 12), (12, .aload_n 1, 1, 13), (13, .getfield 38, 3, 16), (16, .aaload, 1, 17), (17, .areturn, 1, 18)] := by unfold dtab; decide +kernel
theorem okX1_mine : okY yX1_mine 1 := by decide +kernel
set_option maxHeartbeats 4000000 in
theorem c_mineN (l : Launch) (D : va_G) (h : PH) {t ln rl ld : Nat} {tm tu : Int32} {ru : Nat → Option Nat} (ht : h t = some (eo 1 [.ref ln, .ref rl, .ref ld, .int tm, .int tu])) (hln : h ln = some (eR 8 ru))  : Ct l D yX1_mine cX1_mine 2 (some (.object "LeadRaces$Runner")) (rmC 0 0 0 0) [.ref t, .null] h (PS h (some .null)) := by
  refine Ct.of (by decide) rfl (fun Γ X rr hmn => ?_)
  have X : Cx l D cX1_mine RX1 2 (rmC 0 0 0 0) Γ := X
  show J Γ h 0 0 0 [(0, .ref t), (1, .null)] []
  refine J_aload_nN X (dt tX1_mine 0 rfl) 1 rfl ?_
  refine J_ifnonnull X none 8 (dt tX1_mine 1 rfl) (by decide) (fun _ c9 => by cases c9) (fun _ => ?_)
  refine J_null X (dt tX1_mine 2 rfl) ?_
  refine J_goto X (tgt := 17) (dt tX1_mine 3 rfl) (by decide) ?_
  exact J_aret X rr (dt tX1_mine 9 rfl) (Nat.le_of_ble_eq_true rfl) (Nat.le_of_ble_eq_true rfl) (Or.inl ⟨_, rfl⟩) (Or.inl rfl) ⟨rfl, rfl⟩
set_option maxHeartbeats 4000000 in
theorem c_mineR (l : Launch) (D : va_G) (h : PH) {t ln rl ld : Nat} {tm tu : Int32} {ru : Nat → Option Nat} {q j : Nat} {pl sp lx : Int32} (ht : h t = some (eo 1 [.ref ln, .ref rl, .ref ld, .int tm, .int tu])) (hln : h ln = some (eR 8 ru)) (hq : h q = some (eo 10 [.int (nI j), .int pl, .int sp, .int lx])) (hj : j < 8) : Ct l D yX1_mine cX1_mine 2 (some (.object "LeadRaces$Runner")) (rmC 0 0 0 0) [.ref t, .ref q] h (PS h (some (va_rf (ru j)))) := by
  refine Ct.of (by decide) rfl (fun Γ X rr hmn => ?_)
  have X : Cx l D cX1_mine RX1 2 (rmC 0 0 0 0) Γ := X
  show J Γ h 0 0 0 [(0, .ref t), (1, .ref q)] []
  refine J_aload_n X (dt tX1_mine 0 rfl) 1 rfl ?_
  refine J_ifnonnull X (some q) 8 (dt tX1_mine 1 rfl) (by decide) (fun _ _ => ?_) (fun c9 => by cases c9)
  refine J_aload_n X (dt tX1_mine 4 rfl) 0 rfl ?_
  refine g_X1_11_1 X (dt tX1_mine 5 rfl) ht rfl ?_
  refine J_aload_n X (dt tX1_mine 6 rfl) 1 rfl ?_
  refine g_X1_38_10 X (dt tX1_mine 7 rfl) hq rfl ?_
  refine J_rald X (dt tX1_mine 8 rfl) hln (by omega) (by decide) ?_
  exact J_aret X rr (dt tX1_mine 9 rfl) (Nat.le_of_ble_eq_true rfl) (Nat.le_of_ble_eq_true rfl) (Or.inl ⟨_, rfl⟩) (isr_q _) ⟨rfl, rfl⟩
abbrev cX1_many : ByteArray := prog_10_method_12_code
def yX1_many : MethodName := ⟨RX1, "many", "()I"⟩
theorem tX1_many : dtab cX1_many [(0, .iconst 0, 1, 1), (1, .istore_n 1, 1, 2), (2, .aload_n 0, 1, 3), (3, .getfield 11, 3, 6), (6, .astore_n 2, 1, 7), (7, .aload_n 2, 1, 8), (8, .arraylength, 1, 9), (9, .istore_n 3, 1, 10), (10, .iconst 0, 1, 11), (11, .istore 4, 2, 13), (13, .iload 4, 2, 15), (15, .iload_n 3, 1, 16), (16, .if_icmp .ge 28, 3, 19), (19, .aload_n 2, 1, 20), (20, .iload 4, 2, 22), (22, .aaload, 1, 23), (23, .astore 5, 2, 25), (25, .iload_n 1, 1, 26), (26, .aload 5, 2, 28), (28, .ifnonnull 7, 3, 31), (31, .iconst 0, 1, 32), (32, .goto 4, 3, 35), (35, .iconst 1, 1, 36), (36, .iadd, 1, 37), (37, .istore_n 1, 1, 38), (38, .iinc 4 1, 3, 41), (41, .goto (-28), 3, 44), (44, .iload_n 1, 1, 45), (45, .ireturn, 1, 46)] := by unfold dtab; decide +kernel
theorem okX1_many : okY yX1_many 0 := by decide +kernel
set_option maxHeartbeats 4000000 in
theorem c_Tmany (l : Launch) (D : va_G) (h : PH) {t : Nat} {tm tu : Int32} {ru : Nat → Option Nat} {a : Nat → Int32} {T : Nat → Nat} (ht : h t = some (eo 1 [.ref (T 0), .ref (T 1), .ref (T 3), .int tm, .int tu])) (hln : h (T 0) = some (eR 8 ru)) (hh : ∀ i, i < 8 → a (1 + i) = if ru i = none then 0 else 1) : Ct l D yX1_many cX1_many 6 (some .int) (rmC 0 0 0 0) [.ref t] h (PS h (some (.int (m_runs0 a 8)))) := by
  refine Ct.of (by decide) rfl (fun Γ X rr hmn => ?_)
  have X : Cx l D cX1_many RX1 6 (rmC 0 0 0 0) Γ := X
  show J Γ h 0 0 0 [(0, .ref t)] []
  refine J_iconst X (nI 0) (dt tX1_many 0 rfl) (by decide) ?_
  refine J_istore_n X (lv2 := [(1, .int (nI 0)), (0, .ref t)]) (dt tX1_many 1 rfl) rfl rfl rfl ?_
  refine J_aload_n X (dt tX1_many 2 rfl) 1 rfl ?_
  refine g_X1_11_1 X (dt tX1_many 3 rfl) ht rfl ?_
  refine J_astore_n X (lv2 := [(2, .ref (T 0)), (1, .int (nI 0)), (0, .ref t)]) (dt tX1_many 4 rfl) rfl rfl rfl ?_
  refine J_aload_n X (dt tX1_many 5 rfl) 0 rfl ?_
  refine J_alen X (dt tX1_many 6 rfl) hln rfl ?_
  show J Γ h 0 0 9 [(2, .ref (T 0)), (1, .int (nI 0)), (0, .ref t)] [.int (nI 8)]
  refine J_istore_n X (lv2 := [(3, .int (nI 8)), (2, .ref (T 0)), (1, .int (nI 0)), (0, .ref t)]) (dt tX1_many 7 rfl) rfl rfl rfl ?_
  refine J_iconst X (nI 0) (dt tX1_many 8 rfl) (by decide) ?_
  refine J_istore X (lv2 := [(4, .int (nI 0)), (3, .int (nI 8)), (2, .ref (T 0)), (1, .int (nI 0)), (0, .ref t)]) (dt tX1_many 9 rfl) rfl rfl ?_
  refine J_sub [4, 3, 2, 1, 0] rfl ?_
  refine up_to 8 (P := fun i1 => J Γ h 0 0 13 [(0, .ref t), (1, .int (m_runs0 a i1)), (2, .ref (T 0)), (3, .int (nI 8)), (4, .int (nI i1))] []) ?_ ?_
  · show J Γ h 0 0 13 [(0, .ref t), (1, .int (m_runs0 a 8)), (2, .ref (T 0)), (3, .int (nI 8)), (4, .int (nI 8))] []
    refine J_iload X (dt tX1_many 10 rfl) 4 rfl ?_
    refine J_iload_n X (dt tX1_many 11 rfl) 3 rfl ?_
    refine J_icmp_ge X 44 (dt tX1_many 12 rfl) (by decide) (fun _ => ?_) (fun c9 => absurd (by decide) c9)
    refine J_iload_n X (dt tX1_many 27 rfl) 1 rfl ?_
    exact J_iret X rr (dt tX1_many 28 rfl) (Nat.le_of_ble_eq_true rfl) (Nat.le_of_ble_eq_true rfl) ⟨rfl, rfl⟩
  · intro i1 hi1 ih
    refine J_iload X (dt tX1_many 10 rfl) 4 rfl ?_
    refine J_iload_n X (dt tX1_many 11 rfl) 3 rfl ?_
    refine J_icmp_ge X 44 (dt tX1_many 12 rfl) (by decide) (fun c9 => absurd c9 (nI_ge hi1 (by decide))) (fun _ => ?_)
    refine J_aload_n X (dt tX1_many 13 rfl) 2 rfl ?_
    refine J_iload X (dt tX1_many 14 rfl) 4 rfl ?_
    refine J_rald X (dt tX1_many 15 rfl) hln (by omega) (by decide) ?_
    refine J_astoreq X (lv2 := [(5, va_rf (ru i1)), (0, .ref t), (1, .int (m_runs0 a i1)), (2, .ref (T 0)), (3, .int (nI 8)), (4, .int (nI i1))]) (dt tX1_many 16 rfl) rfl rfl ?_
    refine J_iload_n X (dt tX1_many 17 rfl) 2 rfl ?_
    refine J_aloadq X (dt tX1_many 18 rfl) 0 rfl ?_
    have kj4 : ∀ v3 : Int32, v3 = (if (ru i1) = none then nI 0 else nI 1) → J Γ h 0 0 36 [(5, va_rf (ru i1)), (0, .ref t), (1, .int (m_runs0 a i1)), (2, .ref (T 0)), (3, .int (nI 8)), (4, .int (nI i1))] [.int v3, .int (m_runs0 a i1)] := by
      intro v3 ev3
      refine J_iadd X (dt tX1_many 23 rfl) ?_
      refine J_istore_n X (lv2 := [(1, .int ((m_runs0 a i1) + v3)), (5, va_rf (ru i1)), (0, .ref t), (2, .ref (T 0)), (3, .int (nI 8)), (4, .int (nI i1))]) (dt tX1_many 24 rfl) rfl rfl rfl ?_
      refine J_iinc X (lv2 := [(4, .int (nI (i1 + 1))), (1, .int ((m_runs0 a i1) + v3)), (5, va_rf (ru i1)), (0, .ref t), (2, .ref (T 0)), (3, .int (nI 8))]) (dt tX1_many 25 rfl) 5 (nI (i1 + 1)) rfl (nI_add i1 1) rfl rfl ?_
      refine J_goto X (tgt := 13) (dt tX1_many 26 rfl) (by decide) ?_
      refine J_sub [3, 1, 4, 5, 0] rfl ?_
      rw [show ((m_runs0 a i1) + v3 : Int32) = m_runs0 a (i1 + 1) from by first | (rw [m_runs0, hh i1 hi1, ev3]; rfl) | rw [m_runs0, hh i1 hi1, ev3]]
      exact ih
    refine J_ifnonnull X (ru i1) 35 (dt tX1_many 19 rfl) (by decide) (fun ac2 c2 => ?_) (fun c2 => ?_)
    · refine J_iconst X (nI 1) (dt tX1_many 22 rfl) (by decide) ?_
      exact kj4 _ (if_neg (by rw [c2]; exact nofun)).symm
    · refine J_iconst X (nI 0) (dt tX1_many 20 rfl) (by decide) ?_
      refine J_goto X (tgt := 36) (dt tX1_many 21 rfl) (by decide) ?_
      exact kj4 _ (if_pos c2).symm
abbrev cX1_isStale : ByteArray := prog_10_method_17_code
def yX1_isStale : MethodName := ⟨RX1, "isStale", "(I[Z)Z"⟩
theorem tX1_isStale : dtab cX1_isStale [(0, .iload_n 1, 1, 1), (1, .iconst 4, 1, 2), (2, .if_icmp .lt 29, 3, 5), (5, .aload_n 2, 1, 6), (6, .iconst 2, 1, 7), (7, .iload_n 1, 1, 8), (8, .iconst 4, 1, 9), (9, .isub, 1, 10), (10, .imul, 1, 11), (11, .baload, 1, 12), (12, .ifCond .ne 15, 3, 15), (15, .aload_n 2, 1, 16), (16, .iconst 2, 1, 17), (17, .iload_n 1, 1, 18), (18, .iconst 4, 1, 19), (19, .isub, 1, 20), (20, .imul, 1, 21), (21, .iconst 1, 1, 22), (22, .iadd, 1, 23), (23, .baload, 1, 24), (24, .ifCond .eq 7, 3, 27), (27, .iconst 1, 1, 28), (28, .goto 4, 3, 31), (31, .iconst 0, 1, 32), (32, .istore_n 3, 1, 33), (33, .iload_n 3, 1, 34), (34, .ifCond .ne 26, 3, 37), (37, .aload_n 0, 1, 38), (38, .getfield 20, 3, 41), (41, .iload_n 1, 1, 42), (42, .invokevirtual 96, 3, 45), (45, .checkcast 31, 3, 48), (48, .getfield 173, 3, 51), (51, .aload_n 0, 1, 52), (52, .getfield 82, 3, 55), (55, .i2l, 1, 56), (56, .lcmp, 1, 57), (57, .ifCond .ne 7, 3, 60), (60, .iconst 1, 1, 61), (61, .goto 4, 3, 64), (64, .iconst 0, 1, 65), (65, .ireturn, 1, 66)] := by unfold dtab; decide +kernel
theorem okX1_isStale : okY yX1_isStale 2 := by decide +kernel
set_option maxHeartbeats 4000000 in
theorem c_TstaleL (l : Launch) (D : va_G) (h : PH) {b : PH} {t : Nat} {T rc : Nat → Nat} {ru wn ot : Nat → Option Nat} {un : Nat → Int64} {a : Nat → Int32} {r os : Nat} {g : Nat → Int32} (hz : h os = some (eZ 7 g)) (hc : Tc b h t T rc ru wn ot un a) (hr : r < 4) : Ct l D yX1_isStale cX1_isStale 4 (some .boolean) (rmC 3 64 0 0) [.ref t, .int (nI r), .ref os] h (PS h (some (.int (if lg_cmp (un r) (a 0).toInt64 = 0 then nI 1 else nI 0)))) := by
  refine Ct.of (by decide) rfl (fun Γ X rr hmn => ?_)
  have X : Cx l D cX1_isStale RX1 4 (rmC 3 64 0 0) Γ := X
  show J Γ h 0 0 0 [(0, .ref t), (1, .int (nI r)), (2, .ref os)] []
  refine J_iload_n X (dt tX1_isStale 0 rfl) 1 rfl ?_
  refine J_iconst X (nI 4) (dt tX1_isStale 1 rfl) (by decide) ?_
  refine J_icmp_lt X 31 (dt tX1_isStale 2 rfl) (by decide) (fun _ => ?_) (fun c9 => absurd (nI_lt hr (by omega)) c9)
  refine J_iconst X (nI 0) (dt tX1_isStale 23 rfl) (by decide) ?_
  refine J_istore_n X (lv2 := [(3, .int (nI 0)), (0, .ref t), (1, .int (nI r)), (2, .ref os)]) (dt tX1_isStale 24 rfl) rfl rfl rfl ?_
  refine J_iload_n X (dt tX1_isStale 25 rfl) 0 rfl ?_
  refine J_if_ne X 60 (dt tX1_isStale 26 rfl) (by decide) (fun c9 => absurd c9 (by decide)) (fun _ => ?_)
  refine J_aload_n X (dt tX1_isStale 27 rfl) 1 rfl ?_
  refine g_X1_20_1 X (dt tX1_isStale 28 rfl) hc.ct rfl ?_
  refine J_iload_n X (dt tX1_isStale 29 rfl) 2 rfl ?_
  refine J_callVR (rest := []) X (T := TJ2) (dt tX1_isStale 30 rfl) (c_LAget l D _ hc.rl hc.ea (by omega) (by decide) (by decide)) (lw_V q532 q533 q534 q73 q535) okJ2_get rfl (Or.inl hc.rl) rfl ⟨Nat.le_of_ble_eq_true rfl, Nat.le_of_ble_eq_true rfl⟩ rfl (Nat.le_of_ble_eq_true rfl) (Nat.le_of_ble_eq_true rfl) (Nat.le_of_ble_eq_true rfl) (fun v9 h9 hp9 => ?_)
  obtain ⟨rfl, e9⟩ := hp9
  rw [e9]
  show J Γ h 0 0 45 [(3, .int (nI 0)), (0, .ref t), (1, .int (nI r)), (2, .ref os)] [va_rf ((fT rc) r)]
  refine J_topq (rf_s (if_pos (by omega))) ?_
  refine J_castS X (C := RX2) (T := TX2) (dt tX1_isStale 31 rfl) (Or.inl (hc.cr (i := r) (by omega))) rfl q207 ?_
  refine g_X1_173_4 X (dt tX1_isStale 32 rfl) (hc.cr (i := r) (by omega)) rfl ?_
  refine J_aload_n X (dt tX1_isStale 33 rfl) 1 rfl ?_
  refine g_X1_82_1 X (dt tX1_isStale 34 rfl) hc.ct rfl ?_
  refine J_i2l X (dt tX1_isStale 35 rfl) ?_
  refine J_lcmp X (dt tX1_isStale 36 rfl) ?_
  have kj3 : ∀ v2 : Int32, v2 = (if (lg_cmp (un r) ((a 0).toInt64)) = 0 then nI 1 else nI 0) → J Γ h 0 0 65 [(3, .int (nI 0)), (0, .ref t), (1, .int (nI r)), (2, .ref os)] [.int v2] := by
    intro v2 ev2
    exact J_zret X rr (dt tX1_isStale 41 rfl) (Nat.le_of_ble_eq_true rfl) (Nat.le_of_ble_eq_true rfl) (isB.nar (by rw [ev2]; exact isB_ite isB_1 isB_0)) (by subst_vars; exact ⟨rfl, rfl⟩)
  refine J_if_ne X 64 (dt tX1_isStale 37 rfl) (by decide) (fun c1 => ?_) (fun c1 => ?_)
  · refine J_iconst X (nI 0) (dt tX1_isStale 40 rfl) (by decide) ?_
    exact kj3 _ (if_neg c1).symm
  · refine J_iconst X (nI 1) (dt tX1_isStale 38 rfl) (by decide) ?_
    refine J_goto X (tgt := 65) (dt tX1_isStale 39 rfl) (by decide) ?_
    exact kj3 _ (if_pos c1).symm
set_option maxHeartbeats 4000000 in
theorem c_TstaleH (l : Launch) (D : va_G) (h : PH) {b : PH} {t : Nat} {T rc : Nat → Nat} {ru wn ot : Nat → Option Nat} {un : Nat → Int64} {a : Nat → Int32} {r os : Nat} {g : Nat → Int32} (hz : h os = some (eZ 7 g)) (hc : Tc b h t T rc ru wn ot un a) (h4 : 4 ≤ r) (hr : r < 7) : Ct l D yX1_isStale cX1_isStale 4 (some .boolean) (rmC 3 64 0 0) [.ref t, .int (nI r), .ref os] h (PS h (some (.int (if (if g (2 * (r - 4)) = 0 then (if g (2 * (r - 4) + 1) = 0 then nI 0 else nI 1) else nI 1) = 0 then (if lg_cmp (un r) (a 0).toInt64 = 0 then nI 1 else nI 0) else nI 1)))) := by
  refine Ct.of (by decide) rfl (fun Γ X rr hmn => ?_)
  have X : Cx l D cX1_isStale RX1 4 (rmC 3 64 0 0) Γ := X
  show J Γ h 0 0 0 [(0, .ref t), (1, .int (nI r)), (2, .ref os)] []
  refine J_iload_n X (dt tX1_isStale 0 rfl) 1 rfl ?_
  refine J_iconst X (nI 4) (dt tX1_isStale 1 rfl) (by decide) ?_
  refine J_icmp_lt X 31 (dt tX1_isStale 2 rfl) (by decide) (fun c9 => absurd c9 (nI_nlt h4 (by omega))) (fun _ => ?_)
  refine J_aload_n X (dt tX1_isStale 3 rfl) 2 rfl ?_
  refine J_iconst X (nI 2) (dt tX1_isStale 4 rfl) (by decide) ?_
  refine J_iload_n X (dt tX1_isStale 5 rfl) 1 rfl ?_
  refine J_iconst X (nI 4) (dt tX1_isStale 6 rfl) (by decide) ?_
  refine J_isubN X (dt tX1_isStale 7 rfl) (by omega) ?_
  refine J_imulN X (dt tX1_isStale 8 rfl) ?_
  refine J_zald X (dt tX1_isStale 9 rfl) hz (by omega) (by decide) ?_
  have kj4 : ∀ v3 : Int32, v3 = (if (g (2 * (r - 4))) = 0 then if (g ((2 * (r - 4)) + 1)) = 0 then nI 0 else nI 1 else nI 1) → J Γ h 0 0 32 [(0, .ref t), (1, .int (nI r)), (2, .ref os)] [.int v3] := by
    intro v3 ev3
    refine J_istore_n X (lv2 := [(3, .int v3), (0, .ref t), (1, .int (nI r)), (2, .ref os)]) (dt tX1_isStale 24 rfl) rfl rfl rfl ?_
    refine J_iload_n X (dt tX1_isStale 25 rfl) 0 rfl ?_
    have kj8 : ∀ v7 : Int32, v7 = (if v3 = 0 then if (lg_cmp (un r) ((a 0).toInt64)) = 0 then nI 1 else nI 0 else nI 1) → J Γ h 0 0 65 [(3, .int v3), (0, .ref t), (1, .int (nI r)), (2, .ref os)] [.int v7] := by
      intro v7 ev7
      exact J_zret X rr (dt tX1_isStale 41 rfl) (Nat.le_of_ble_eq_true rfl) (Nat.le_of_ble_eq_true rfl) (isB.nar (by subst_vars; exact isB_ite (isB_ite isB_1 isB_0) isB_1)) (by subst_vars; exact ⟨rfl, rfl⟩)
    refine J_if_ne X 60 (dt tX1_isStale 26 rfl) (by decide) (fun c5 => ?_) (fun c5 => ?_)
    · refine J_iconst X (nI 1) (dt tX1_isStale 38 rfl) (by decide) ?_
      refine J_goto X (tgt := 65) (dt tX1_isStale 39 rfl) (by decide) ?_
      exact kj8 _ (if_neg c5).symm
    · refine J_aload_n X (dt tX1_isStale 27 rfl) 1 rfl ?_
      refine g_X1_20_1 X (dt tX1_isStale 28 rfl) hc.ct rfl ?_
      refine J_iload_n X (dt tX1_isStale 29 rfl) 2 rfl ?_
      refine J_callVR (rest := []) X (T := TJ2) (dt tX1_isStale 30 rfl) (c_LAget l D _ hc.rl hc.ea (by omega) (by decide) (by decide)) (lw_V q532 q533 q534 q73 q535) okJ2_get rfl (Or.inl hc.rl) rfl ⟨Nat.le_of_ble_eq_true rfl, Nat.le_of_ble_eq_true rfl⟩ rfl (Nat.le_of_ble_eq_true rfl) (Nat.le_of_ble_eq_true rfl) (Nat.le_of_ble_eq_true rfl) (fun v9 h9 hp9 => ?_)
      obtain ⟨rfl, e9⟩ := hp9
      rw [e9]
      show J Γ h 0 0 45 [(3, .int v3), (0, .ref t), (1, .int (nI r)), (2, .ref os)] [va_rf ((fT rc) r)]
      refine J_topq (rf_s (if_pos (by omega))) ?_
      refine J_castS X (C := RX2) (T := TX2) (dt tX1_isStale 31 rfl) (Or.inl (hc.cr (i := r) (by omega))) rfl q207 ?_
      refine g_X1_173_4 X (dt tX1_isStale 32 rfl) (hc.cr (i := r) (by omega)) rfl ?_
      refine J_aload_n X (dt tX1_isStale 33 rfl) 1 rfl ?_
      refine g_X1_82_1 X (dt tX1_isStale 34 rfl) hc.ct rfl ?_
      refine J_i2l X (dt tX1_isStale 35 rfl) ?_
      refine J_lcmp X (dt tX1_isStale 36 rfl) ?_
      refine J_if_ne X 64 (dt tX1_isStale 37 rfl) (by decide) (fun c6 => ?_) (fun c6 => ?_)
      · refine J_iconst X (nI 0) (dt tX1_isStale 40 rfl) (by decide) ?_
        exact kj8 _ ((if_pos c5).trans (if_neg c6)).symm
      · refine J_iconst X (nI 1) (dt tX1_isStale 38 rfl) (by decide) ?_
        refine J_goto X (tgt := 65) (dt tX1_isStale 39 rfl) (by decide) ?_
        exact kj8 _ ((if_pos c5).trans (if_pos c6)).symm
  refine J_if_ne X 27 (dt tX1_isStale 10 rfl) (by decide) (fun c1 => ?_) (fun c1 => ?_)
  · refine J_iconst X (nI 1) (dt tX1_isStale 21 rfl) (by decide) ?_
    refine J_goto X (tgt := 32) (dt tX1_isStale 22 rfl) (by decide) ?_
    exact kj4 _ (if_neg c1).symm
  · refine J_aload_n X (dt tX1_isStale 11 rfl) 2 rfl ?_
    refine J_iconst X (nI 2) (dt tX1_isStale 12 rfl) (by decide) ?_
    refine J_iload_n X (dt tX1_isStale 13 rfl) 1 rfl ?_
    refine J_iconst X (nI 4) (dt tX1_isStale 14 rfl) (by decide) ?_
    refine J_isubN X (dt tX1_isStale 15 rfl) (by omega) ?_
    refine J_imulN X (dt tX1_isStale 16 rfl) ?_
    refine J_iconst X (nI 1) (dt tX1_isStale 17 rfl) (by decide) ?_
    refine J_iaddN X (dt tX1_isStale 18 rfl) ?_
    refine J_zald X (dt tX1_isStale 19 rfl) hz (by omega) (by decide) ?_
    refine J_if_eq X 31 (dt tX1_isStale 20 rfl) (by decide) (fun c2 => ?_) (fun c2 => ?_)
    · refine J_iconst X (nI 0) (dt tX1_isStale 23 rfl) (by decide) ?_
      exact kj4 _ ((if_pos c1).trans (if_pos c2)).symm
    · refine J_iconst X (nI 1) (dt tX1_isStale 21 rfl) (by decide) ?_
      refine J_goto X (tgt := 32) (dt tX1_isStale 22 rfl) (by decide) ?_
      exact kj4 _ ((if_pos c1).trans (if_neg c2)).symm
abbrev cX1_runs : ByteArray := prog_10_method_8_code
def yX1_runs : MethodName := ⟨RX1, "runs", "(I)Z"⟩
theorem tX1_runs : dtab cX1_runs [(0, .aload_n 0, 1, 1), (1, .getfield 20, 3, 4), (4, .iload_n 1, 1, 5), (5, .invokevirtual 96, 3, 8), (8, .checkcast 31, 3, 11), (11, .aload_n 0, 1, 12), (12, .iload_n 1, 1, 13), (13, .iconst 0, 1, 14), (14, .invokevirtual 100, 3, 17), (17, .aload_n 0, 1, 18), (18, .iload_n 1, 1, 19), (19, .iconst 1, 1, 20), (20, .invokevirtual 100, 3, 23), (23, .aload_n 0, 1, 24), (24, .getfield 82, 3, 27), (27, .invokevirtual 104, 3, 30), (30, .ireturn, 1, 31)] := by unfold dtab; decide +kernel
theorem okX1_runs : okY yX1_runs 1 := by decide +kernel
set_option maxHeartbeats 4000000 in
theorem c_TrunsX (l : Launch) (D : va_G) (h : PH) {b : PH} {t : Nat} {T rc : Nat → Nat} {ru wn ot : Nat → Option Nat} {un : Nat → Int64} {a : Nat → Int32} {r : Nat} {la pa sa da lb pb sb db : Int32}  (hc : Tc b h t T rc ru wn ot un a) (hr : r < 7) (ha : ∀ q, sd ru wn r 0 = some q → h q = some (eo 10 [.int la, .int pa, .int sa, .int da])) (hb : ∀ q, sd ru wn r 1 = some q → h q = some (eo 10 [.int lb, .int pb, .int sb, .int db])) : Ct l D yX1_runs cX1_runs 2 (some .boolean) (rmC 4 86 0 0) [.ref t, .int (nI r)] h (PS (pu h (rc r) (eo 4 [va_rf (k_win (sd ru wn r 0) (sd ru wn r 1) (k_ahead pa la pb lb)), va_rf (k_los (sd ru wn r 0) (sd ru wn r 1) (k_ahead pa la pb lb)), .long (k_unt (sd ru wn r 0) (sd ru wn r 1) (k_ahead pa la pb lb) (a 0) (k_lasts pa la sa pb lb sb) (k_lasts pb lb sb pa la sa)), .int (a (54 + r) + nI 1), .int (a 0)])) (some (.int (k_other (k_win (sd ru wn r 0) (sd ru wn r 1) (k_ahead pa la pb lb)) (wn r))))) := by
  refine Ct.of (by decide) rfl (fun Γ X rr hmn => ?_)
  have X : Cx l D cX1_runs RX1 2 (rmC 4 86 0 0) Γ := X
  show J Γ h 0 0 0 [(0, .ref t), (1, .int (nI r))] []
  refine J_aload_n X (dt tX1_runs 0 rfl) 0 rfl ?_
  refine g_X1_20_1 X (dt tX1_runs 1 rfl) hc.ct rfl ?_
  refine J_iload_n X (dt tX1_runs 2 rfl) 1 rfl ?_
  refine J_callVR (rest := []) X (T := TJ2) (dt tX1_runs 3 rfl) (c_LAget l D _ hc.rl hc.ea (by omega) (by decide) (by decide)) (lw_V q532 q533 q534 q73 q535) okJ2_get rfl (Or.inl hc.rl) rfl ⟨Nat.le_of_ble_eq_true rfl, Nat.le_of_ble_eq_true rfl⟩ rfl (Nat.le_of_ble_eq_true rfl) (Nat.le_of_ble_eq_true rfl) (Nat.le_of_ble_eq_true rfl) (fun v9 h9 hp9 => ?_)
  obtain ⟨rfl, e9⟩ := hp9
  rw [e9]
  show J Γ h 0 0 8 [(0, .ref t), (1, .int (nI r))] [va_rf ((fT rc) r)]
  refine J_topq (rf_s (if_pos (by omega))) ?_
  refine J_castS X (C := RX2) (T := TX2) (dt tX1_runs 4 rfl) (Or.inl (hc.cr (i := r) (by omega))) rfl q207 ?_
  refine J_aload_n X (dt tX1_runs 5 rfl) 0 rfl ?_
  refine J_iload_n X (dt tX1_runs 6 rfl) 1 rfl ?_
  refine J_iconst X (nI 0) (dt tX1_runs 7 rfl) (by decide) ?_
  refine J_callVR (rest := [.ref (rc r)]) X (T := TX1) (dt tX1_runs 8 rfl) (c_Tside l D _ (r := r) (k := 0) hc (by omega) (by decide)) (lw_V q546 q548 qs6 q70 q549) okX1_side rfl (Or.inl hc.ct) rfl ⟨Nat.le_of_ble_eq_true rfl, Nat.le_of_ble_eq_true rfl⟩ rfl (Nat.le_of_ble_eq_true rfl) (Nat.le_of_ble_eq_true rfl) (Nat.le_of_ble_eq_true rfl) (fun v9 h9 hp9 => ?_)
  obtain ⟨rfl, e9⟩ := hp9
  rw [e9]
  show J Γ h 0 0 17 [(0, .ref t), (1, .int (nI r))] [va_rf (sd ru wn r 0), .ref (rc r)]
  refine J_aload_n X (dt tX1_runs 9 rfl) 0 rfl ?_
  refine J_iload_n X (dt tX1_runs 10 rfl) 1 rfl ?_
  refine J_iconst X (nI 1) (dt tX1_runs 11 rfl) (by decide) ?_
  refine J_callVR (rest := [va_rf (sd ru wn r 0), .ref (rc r)]) X (T := TX1) (dt tX1_runs 12 rfl) (c_Tside l D _ (r := r) (k := 1) hc (by omega) (by decide)) (lw_V q546 q548 qs6 q70 q549) okX1_side rfl (Or.inl hc.ct) rfl ⟨Nat.le_of_ble_eq_true rfl, Nat.le_of_ble_eq_true rfl⟩ rfl (by generalize sd ru wn r 0 = r90; cases r90 <;> exact Nat.le_of_ble_eq_true rfl) (Nat.le_of_ble_eq_true rfl) (Nat.le_of_ble_eq_true rfl) (fun v9 h9 hp9 => ?_)
  obtain ⟨rfl, e9⟩ := hp9
  rw [e9]
  show J Γ h 0 0 23 [(0, .ref t), (1, .int (nI r))] [va_rf (sd ru wn r 1), va_rf (sd ru wn r 0), .ref (rc r)]
  refine J_aload_n X (dt tX1_runs 13 rfl) 0 rfl ?_
  refine g_X1_82_1 X (dt tX1_runs 14 rfl) hc.ct rfl ?_
  refine J_callVR (rest := []) X (T := TX2) (dt tX1_runs 15 rfl) (c_Cruns l D _ (a 0) (sd ru wn r 0) (sd ru wn r 1) (hc.cr (i := r) (by omega)) ha hb) (lw_V q550 q551 q552 q76 q553) okX2_runs rfl (Or.inl (hc.cr (i := r) (by omega))) rfl ⟨Nat.le_of_ble_eq_true rfl, Nat.le_of_ble_eq_true rfl⟩ rfl (Nat.le_of_ble_eq_true rfl) (Nat.le_of_ble_eq_true rfl) (Nat.le_of_ble_eq_true rfl) (fun v9 h9 hp9 => ?_)
  obtain ⟨rfl, e9⟩ := hp9
  rw [e9]
  show J Γ (pu h (rc r) (eo 4 [va_rf (k_win (sd ru wn r 0) (sd ru wn r 1) (k_ahead pa la pb lb)), va_rf (k_los (sd ru wn r 0) (sd ru wn r 1) (k_ahead pa la pb lb)), .long (k_unt (sd ru wn r 0) (sd ru wn r 1) (k_ahead pa la pb lb) (a 0) (k_lasts pa la sa pb lb sb) (k_lasts pb lb sb pa la sa)), .int (a (54 + r) + nI 1), .int (a 0)])) 0 0 30 [(0, .ref t), (1, .int (nI r))] [.int (k_other (k_win (sd ru wn r 0) (sd ru wn r 1) (k_ahead pa la pb lb)) (wn r))]
  exact J_zret X rr (dt tX1_runs 16 rfl) (Nat.le_of_ble_eq_true rfl) (Nat.le_of_ble_eq_true rfl) (isB.nar (k_other_B _ _)) ⟨rfl, rfl⟩
