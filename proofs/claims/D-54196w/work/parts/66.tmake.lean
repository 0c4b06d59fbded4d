/-! printed by gen/compw.py -/
set_option maxRecDepth 100000
theorem q125 : (Jvm.Cond.methodLink "LeadRaces$Track" (3 : Nat) ({ cls := "java/lang/Object", name := "<init>", desc := "()V" } : Jvm.MethodName)) ∈ lw_all := lw_g (lw_at lw_m1 57 rfl) rfl
theorem q127 : (Jvm.Cond.arrayOver (Jvm.ClassFile.FieldType.object "LeadRaces$Runner")) ∈ lw_tbl := lw_at lw_m1 59 rfl
theorem q128 : (Jvm.Cond.classLink "LeadRaces$Track" (17 : Nat) "java/util/ArrayList") ∈ lw_all := lw_g (lw_at lw_m1 60 rfl) rfl
theorem q129 : (Jvm.Cond.instantiable "java/util/ArrayList" (3 : Nat)) ∈ lw_all := lw_g (lw_at lw_m1 61 rfl) rfl
theorem q130 : (Jvm.Cond.methodLink "LeadRaces$Track" (19 : Nat) ({ cls := "java/util/ArrayList", name := "<init>", desc := "()V" } : Jvm.MethodName)) ∈ lw_all := lw_g (lw_at lw_m1 62 rfl) rfl
theorem q131 : (Jvm.Cond.instanceMethod ({ cls := "java/util/ArrayList", name := "<init>", desc := "()V" } : Jvm.MethodName)) ∈ lw_all := lw_g (lw_at lw_m1 63 rfl) rfl
theorem q132 : (Jvm.Cond.code ({ cls := "java/util/ArrayList", name := "<init>", desc := "()V" } : Jvm.MethodName) prog_44_method_2_code (1 : Nat) (Option.none : Option Jvm.ClassFile.FieldType)) ∈ lw_all := lw_g (lw_at lw_m1 64 rfl) rfl
theorem q161 : (Jvm.Cond.classLink "LeadRaces$Track" (24 : Nat) "java/util/LinkedList") ∈ lw_all := lw_g (lw_at lw_m1 93 rfl) rfl
theorem q162 : (Jvm.Cond.instantiable "java/util/LinkedList" (4 : Nat)) ∈ lw_all := lw_g (lw_at lw_m1 94 rfl) rfl
theorem q163 : (Jvm.Cond.methodLink "LeadRaces$Track" (26 : Nat) ({ cls := "java/util/LinkedList", name := "<init>", desc := "()V" } : Jvm.MethodName)) ∈ lw_all := lw_g (lw_at lw_m1 95 rfl) rfl
theorem q164 : (Jvm.Cond.instanceMethod ({ cls := "java/util/LinkedList", name := "<init>", desc := "()V" } : Jvm.MethodName)) ∈ lw_all := lw_g (lw_at lw_m1 96 rfl) rfl
theorem q165 : (Jvm.Cond.code ({ cls := "java/util/LinkedList", name := "<init>", desc := "()V" } : Jvm.MethodName) prog_52_method_1_code (1 : Nat) (Option.none : Option Jvm.ClassFile.FieldType)) ∈ lw_all := lw_g (lw_at lw_m1 97 rfl) rfl
theorem q209 : (Jvm.Cond.methodLinkNest "LeadRaces$Track" (33 : Nat) ({ cls := "LeadRaces$Race", name := "<init>", desc := "()V" } : Jvm.MethodName) "LeadRaces") ∈ lw_tbl := lw_at lw_m1 141 rfl
theorem q238 : (Jvm.Cond.methodLink "LeadRaces$Track" (34 : Nat) ({ cls := "java/util/ArrayList", name := "add", desc := "(Ljava/lang/Object;)Z" } : Jvm.MethodName)) ∈ lw_all := lw_g (lw_at lw_m1 170 rfl) rfl
theorem q239 : (Jvm.Cond.instanceMethod ({ cls := "java/util/ArrayList", name := "add", desc := "(Ljava/lang/Object;)Z" } : Jvm.MethodName)) ∈ lw_all := lw_g (lw_at lw_m1 171 rfl) rfl
theorem q240 : (Jvm.Cond.selects "java/util/ArrayList" ({ cls := "java/util/ArrayList", name := "add", desc := "(Ljava/lang/Object;)Z" } : Jvm.MethodName) ({ cls := "java/util/ArrayList", name := "add", desc := "(Ljava/lang/Object;)Z" } : Jvm.MethodName)) ∈ lw_all := lw_g (lw_at lw_m1 172 rfl) rfl
theorem q241 : (Jvm.Cond.code ({ cls := "java/util/ArrayList", name := "add", desc := "(Ljava/lang/Object;)Z" } : Jvm.MethodName) prog_44_method_25_code (2 : Nat) (Option.some Jvm.ClassFile.FieldType.boolean)) ∈ lw_all := lw_g (lw_at lw_m1 173 rfl) rfl
section
variable {l : Launch} {D : va_G} {cc : ByteArray} {nL : Nat} {rm : Room} {Γ : Cxt} {h : PH} {k n pc nx : Nat} {lv : List (Nat × Value)} {st : List Value}
theorem p_X1_11_1 (X : Cx l D cc RX1 nL rm Γ) (hmn : Mn "<init>" Γ) {a : Nat} {fs fs2 : List Value} {v : Value} (d : At cc pc (.putfield 11) 3 nx) (ha : h a = some (eo 1 fs)) (hn : narrow (.array (.object "LeadRaces$Runner")) v = v) (hfit : fits (.array (.object "LeadRaces$Runner")) v = true) (hl2 : Nat.ble (0 + 1) fs.length = true) (hfs : fs.set 0 v = fs2) (kk : J Γ (pu h a (eo 1 fs2)) k n nx lv st) : J Γ h k n pc lv (v :: .ref a :: st) := J_putF X hmn (kf := 0) (tf := tyX1) d ha (show vwCl[1]? = some (RX1, TX1, 5) from rfl) in_X1 tyX1_ok nmX1 rfl q182 rfl rfl rfl rfl hn hfit hl2 hfs kk
theorem n_X1_17 (X : Cx l D cc RX1 nL rm Γ) (d : At cc pc (.new 17) 3 nx) (hk : k + 1 ≤ rm.cells) (hn : n + 3 ≤ rm.slots) (kk : ∀ q, h q = none → J Γ (pu h q (eo 2 [.int (nI 0), .null, .int (nI 0)])) (k + 1) (n + 3) nx lv (.ref q :: st)) : J Γ h k n pc lv st := J_new X (tf := tyJ2) d (show vwCl[2]? = some (RJ2, TJ2, 3) from rfl) in_J2 tyJ2_ok q128 q129 q73 (by decide) hk hn kk
theorem p_X1_20_1 (X : Cx l D cc RX1 nL rm Γ) (hmn : Mn "<init>" Γ) {a : Nat} {fs fs2 : List Value} {v : Value} (d : At cc pc (.putfield 20) 3 nx) (ha : h a = some (eo 1 fs)) (hn : narrow (.object "java/util/ArrayList") v = v) (hfit : fits (.object "java/util/ArrayList") v = true) (hl2 : Nat.ble (1 + 1) fs.length = true) (hfs : fs.set 1 v = fs2) (kk : J Γ (pu h a (eo 1 fs2)) k n nx lv st) : J Γ h k n pc lv (v :: .ref a :: st) := J_putF X hmn (kf := 1) (tf := tyX1) d ha (show vwCl[1]? = some (RX1, TX1, 5) from rfl) in_X1 tyX1_ok nmX1 rfl q184 rfl rfl rfl rfl hn hfit hl2 hfs kk
theorem n_X1_24 (X : Cx l D cc RX1 nL rm Γ) (d : At cc pc (.new 24) 3 nx) (hk : k + 1 ≤ rm.cells) (hn : n + 4 ≤ rm.slots) (kk : ∀ q, h q = none → J Γ (pu h q (eo 3 [.int (nI 0), .int (nI 0), .null, .null])) (k + 1) (n + 4) nx lv (.ref q :: st)) : J Γ h k n pc lv st := J_new X (tf := tyJ4) d (show vwCl[3]? = some (RJ4, TJ4, 4) from rfl) in_J4 tyJ4_ok q161 q162 q75 (by decide) hk hn kk
theorem p_X1_27_1 (X : Cx l D cc RX1 nL rm Γ) (hmn : Mn "<init>" Γ) {a : Nat} {fs fs2 : List Value} {v : Value} (d : At cc pc (.putfield 27) 3 nx) (ha : h a = some (eo 1 fs)) (hn : narrow (.object "java/util/LinkedList") v = v) (hfit : fits (.object "java/util/LinkedList") v = true) (hl2 : Nat.ble (2 + 1) fs.length = true) (hfs : fs.set 2 v = fs2) (kk : J Γ (pu h a (eo 1 fs2)) k n nx lv st) : J Γ h k n pc lv (v :: .ref a :: st) := J_putF X hmn (kf := 2) (tf := tyX1) d ha (show vwCl[1]? = some (RX1, TX1, 5) from rfl) in_X1 tyX1_ok nmX1 rfl q186 rfl rfl rfl rfl hn hfit hl2 hfs kk
theorem n_X1_31 (X : Cx l D cc RX1 nL rm Γ) (d : At cc pc (.new 31) 3 nx) (hk : k + 1 ≤ rm.cells) (hn : n + 5 ≤ rm.slots) (kk : ∀ q, h q = none → J Γ (pu h q (eo 4 [.null, .null, .long 0, .int (nI 0), .int (nI 0)])) (k + 1) (n + 5) nx lv (.ref q :: st)) : J Γ h k n pc lv st := J_new X (tf := tyX2) d (show vwCl[4]? = some (RX2, TX2, 5) from rfl) in_X2 tyX2_ok q207 q208 q76 (by decide) hk hn kk
end
section JN
variable {l : Launch} {D : va_G} {cc cc' : ByteArray} {own : String} {nL nL' : Nat} {rm rm' : Room} {Γ : Cxt} {h : PH} {k n pc nx ix : Nat} {lv : List (Nat × Value)} {st rest As : List Value} {y : MethodName} {Post : Option Value → PH → Prop}
/-- the constructor of a nest mate -/
theorem J_callIN (X : Cx l D cc own nL rm Γ) {b : Nat} {host : String} (d : At cc pc (.invokespecial ix) 3 nx) (hC : Ct l D y cc' nL' none rm' (.ref b :: As) h Post) (hg : GoodIn lw_all (ws_ y cc' nL' none)) (hini : Cond.initialized y.cls ∈ lw_all) (hl1 : Cond.methodLinkNest own ix y host ∈ lw_tbl) (hin : Cond.instanceMethod y ∈ lw_all) (hnm : y.name = "<init>") {na : Nat} (hd2 : okY y na) (hna : As.length = na)
    (hR : rm'.frames + 1 ≤ rm.frames ∧ 8 + (nL' + 11) + rm'.locals ≤ rm.locals) (hs : st = As.reverse ++ .ref b :: rest) (hst : (rest.map fun v => v.category).sum ≤ 8) (hk : k + rm'.cells ≤ rm.cells) (hn : n + rm'.slots ≤ rm.slots)
    (kk : ∀ (v : Option Value) (h' : PH), Post v h' → J Γ h' (k + rm'.cells) (n + rm'.slots) nx lv (v.toList ++ rest)) : J Γ h k n pc lv st := by
  obtain ⟨p, l', e, R, s, m, args, below, meth, co, D', A, Q⟩ := Γ
  obtain ⟨rfl, rfl, rfl, hx, hb2, hml, hown, hts, hK, hA, hlk, hE⟩ := X
  obtain ⟨hd, rfl⟩ := d
  intro H locs ls hh hS hl
  have hsub := dm_in hh hA hS.1
  exact J_after (va_runIN (As := As) (rest := rest) ⟨hx, hb2, hml, hown, hts⟩ (hC H.size) (⟨va_cnB na hts hg rfl rfl rfl (hE.tw _ hl1 rfl) (hts _ hini) hd2 hR, hnm, hts _ hin⟩) ⟨Pv.blind, fun U hU hW => ⟨rfl, Pv.to hh hS hA hK hE hU hW⟩⟩ rfl hna (by rw [← hml]; exact hl.1) hs (lv_room hst) hd ⟨hk, hn⟩) hS hsub (fun v h' H1 locs1 hp hh1 hS1 => kk v h' hp H1 locs1 ls hh1 hS1 hl)
end JN
abbrev cX1_init : ByteArray := prog_10_method_1_code
def yX1_init : MethodName := ⟨RX1, "<init>", "()V"⟩
theorem tX1_init : dtab cX1_init [(0, .aload_n 0, 1, 1), (1, .invokespecial 3, 3, 4), (4, .aload_n 0, 1, 5), (5, .bipush 8, 2, 7), (7, .anewarray 9, 3, 10), (10, .putfield 11, 3, 13), (13, .aload_n 0, 1, 14), (14, .new 17, 3, 17), (17, .dup, 1, 18), (18, .invokespecial 19, 3, 21), (21, .putfield 20, 3, 24), (24, .aload_n 0, 1, 25), (25, .new 24, 3, 28), (28, .dup, 1, 29), (29, .invokespecial 26, 3, 32), (32, .putfield 27, 3, 35), (35, .return_, 1, 36)] := by unfold dtab; decide +kernel
theorem okX1_init : okY yX1_init 0 := by decide +kernel
set_option maxHeartbeats 4000000 in
theorem c_Tinit (l : Launch) (D : va_G) (h : PH) {t : Nat} (ht : h t = some (eo 1 [.null, .null, .null, .int (nI 0), .int (nI 0)]))  : Ct l D yX1_init cX1_init 1 none (rmC 5 100 3 15) [.ref t] h (fun v9 h9 => ∃ q1, ∃ q2, ∃ q3, h q1 = none ∧ h q2 = none ∧ h q3 = none ∧ q1 ≠ q2 ∧ q1 ≠ q3 ∧ q2 ≠ q3 ∧ v9 = none ∧ h9 = pu (pu (pu (pu h q1 (eR 8 (fun _ => none))) q2 (eo 2 [.int (nI 0), .ref (k0 D), .int (nI 0)])) q3 (eo 3 [.int (nI 0), .int (nI 0), .null, .null])) t (eo 1 [.ref q1, .ref q2, .ref q3, .int (nI 0), .int (nI 0)])) := by
  refine Ct.of (by decide) rfl (fun Γ X rr hmn => ?_)
  have X : Cx l D cX1_init RX1 1 (rmC 5 100 3 15) Γ := X
  show J Γ h 0 0 0 [(0, .ref t)] []
  refine J_aload_n X (dt tX1_init 0 rfl) 0 rfl ?_
  refine J_objI X (dt tX1_init 1 rfl) q125 q118 q119 (Nat.le_of_ble_eq_true rfl) (Nat.le_of_ble_eq_true rfl) ?_
  refine J_aload_n X (dt tX1_init 2 rfl) 0 rfl ?_
  refine J_bipush X (nI 8) (dt tX1_init 3 rfl) (by decide) ?_
  refine J_newR X (N := 8) (dt tX1_init 4 rfl) q126 q127 (by decide) (Nat.le_of_ble_eq_true rfl) (Nat.le_of_ble_eq_true rfl) (fun q1 fq1 => ?_)
  refine p_X1_11_1 X hmn (fs2 := [.ref q1, .null, .null, .int (nI 0), .int (nI 0)]) (dt tX1_init 5 rfl) (pu_o (ne_f ht fq1) ht) rfl rfl rfl rfl ?_
  refine J_aload_n X (dt tX1_init 6 rfl) 0 rfl ?_
  refine n_X1_17 X (dt tX1_init 7 rfl) (Nat.le_of_ble_eq_true rfl) (Nat.le_of_ble_eq_true rfl) (fun q2 fq2 => ?_)
  refine J_dup X (dt tX1_init 8 rfl) rfl ?_
  refine J_callI (rest := [.ref q2, .ref t]) X (dt tX1_init 9 rfl) (c_LAinit l D _ (pu_s _ _ _)) (lw_meth q132) q73 q130 q131 rfl okJ2_init rfl ⟨Nat.le_of_ble_eq_true rfl, Nat.le_of_ble_eq_true rfl⟩ rfl (Nat.le_of_ble_eq_true rfl) (Nat.le_of_ble_eq_true rfl) (Nat.le_of_ble_eq_true rfl) (fun v9 h9 hp9 => ?_)
  obtain ⟨rfl, e9⟩ := hp9
  rw [e9]
  refine J_heap (h2 := pu (pu (pu h q1 (eR 8 (fun _ => none))) t (eo 1 [.ref q1, .null, .null, .int (nI 0), .int (nI 0)])) q2 (eo 2 [.int (nI 0), .ref (k0 D), .int (nI 0)])) (pu_pu _ _ _ _) ?_
  show J Γ (pu (pu (pu h q1 (eR 8 (fun _ => none))) t (eo 1 [.ref q1, .null, .null, .int (nI 0), .int (nI 0)])) q2 (eo 2 [.int (nI 0), .ref (k0 D), .int (nI 0)])) 2 11 21 [(0, .ref t)] [.ref q2, .ref t]
  refine p_X1_20_1 X hmn (fs2 := [.ref q1, .ref q2, .null, .int (nI 0), .int (nI 0)]) (dt tX1_init 10 rfl) (pu_o (ne_f (pu_s _ _ _) fq2) (pu_s _ _ _)) rfl rfl rfl rfl ?_
  refine J_heap (h2 := pu (pu (pu h q1 (eR 8 (fun _ => none))) q2 (eo 2 [.int (nI 0), .ref (k0 D), .int (nI 0)])) t (eo 1 [.ref q1, .ref q2, .null, .int (nI 0), .int (nI 0)])) (pu_dr1 (ne_f (pu_s _ _ _) fq2)) ?_
  refine J_aload_n X (dt tX1_init 11 rfl) 0 rfl ?_
  refine n_X1_24 X (dt tX1_init 12 rfl) (Nat.le_of_ble_eq_true rfl) (Nat.le_of_ble_eq_true rfl) (fun q3 fq3 => ?_)
  refine J_dup X (dt tX1_init 13 rfl) rfl ?_
  refine J_callI (rest := [.ref q3, .ref t]) X (dt tX1_init 14 rfl) (c_LLinit l D _ (a := q3) (pu_s _ _ _)) (lw_meth q165) q75 q163 q164 rfl okJ4_init rfl ⟨Nat.le_of_ble_eq_true rfl, Nat.le_of_ble_eq_true rfl⟩ rfl (Nat.le_of_ble_eq_true rfl) (Nat.le_of_ble_eq_true rfl) (Nat.le_of_ble_eq_true rfl) (fun v9 h9 hp9 => ?_)
  obtain ⟨rfl, e9⟩ := hp9
  rw [e9]
  refine J_heap (h2 := pu (pu (pu (pu h q1 (eR 8 (fun _ => none))) q2 (eo 2 [.int (nI 0), .ref (k0 D), .int (nI 0)])) t (eo 1 [.ref q1, .ref q2, .null, .int (nI 0), .int (nI 0)])) q3 (eo 3 [.int (nI 0), .int (nI 0), .null, .null])) (pu_pu _ _ _ _) ?_
  show J Γ (pu (pu (pu (pu h q1 (eR 8 (fun _ => none))) q2 (eo 2 [.int (nI 0), .ref (k0 D), .int (nI 0)])) t (eo 1 [.ref q1, .ref q2, .null, .int (nI 0), .int (nI 0)])) q3 (eo 3 [.int (nI 0), .int (nI 0), .null, .null])) 3 15 32 [(0, .ref t)] [.ref q3, .ref t]
  refine p_X1_27_1 X hmn (fs2 := [.ref q1, .ref q2, .ref q3, .int (nI 0), .int (nI 0)]) (dt tX1_init 15 rfl) (pu_o (ne_f (pu_s _ _ _) fq3) (pu_s _ _ _)) rfl rfl rfl rfl ?_
  refine J_heap (h2 := pu (pu (pu (pu h q1 (eR 8 (fun _ => none))) q2 (eo 2 [.int (nI 0), .ref (k0 D), .int (nI 0)])) q3 (eo 3 [.int (nI 0), .int (nI 0), .null, .null])) t (eo 1 [.ref q1, .ref q2, .ref q3, .int (nI 0), .int (nI 0)])) (pu_dr1 (ne_f (pu_s _ _ _) fq3)) ?_
  exact J_vret X rr (dt tX1_init 16 rfl) (Nat.le_of_ble_eq_true rfl) (Nat.le_of_ble_eq_true rfl) ⟨_, _, _, fq1, (pu_none (pu_none fq2).2).2, (pu_none (pu_none (pu_none fq3).2).2).2, (ne_f (pu_o (Ne.symm (ne_f ht fq1)) (pu_s _ _ _)) fq2), (ne_f (pu_o (Ne.symm (ne_f ht fq1)) (pu_o (ne_f (pu_o (Ne.symm (ne_f ht fq1)) (pu_s _ _ _)) fq2) (pu_s _ _ _))) fq3), (ne_f (pu_o (Ne.symm (ne_f (pu_s _ _ _) fq2)) (pu_s _ _ _)) fq3), rfl, rfl⟩
abbrev cX1_begins : ByteArray := prog_10_method_2_code
def yX1_begins : MethodName := ⟨RX1, "begins", "()LLeadRaces$Track;"⟩
theorem tX1_begins : dtab cX1_begins [(0, .iconst 0, 1, 1), (1, .istore_n 1, 1, 2), (2, .iload_n 1, 1, 3), (3, .bipush 7, 2, 5), (5, .if_icmp .ge 24, 3, 8), (8, .aload_n 0, 1, 9), (9, .getfield 20, 3, 12), (12, .new 31, 3, 15), (15, .dup, 1, 16), (16, .invokespecial 33, 3, 19), (19, .invokevirtual 34, 3, 22), (22, .pop, 1, 23), (23, .iinc 1 1, 3, 26), (26, .goto (-24), 3, 29), (29, .aload_n 0, 1, 30), (30, .areturn, 1, 31)] := by unfold dtab; decide +kernel
theorem okX1_begins : okY yX1_begins 0 := by decide +kernel
set_option maxHeartbeats 4000000 in
theorem c_Tbegins (l : Launch) (D : va_G) (h : PH) {b : PH} {t a0 a1 a3 : Nat} (ht : h t = some (eo 1 [.ref a0, .ref a1, .ref a3, .int (nI 0), .int (nI 0)])) (hl : h a1 = some (eo 2 [.int (nI 0), .ref (k0 D), .int (nI 0)])) (bl : b a1 = none) (hx : Ext b h) : Ct l D yX1_begins cX1_begins 2 (some (.object "LeadRaces$Track")) (rmC 5 110 14 105) [.ref t] h (fun v h9 => v = some (.ref t) ∧ (∃ ea rc, Rl D b h9 a1 7 ea rc (fun _ => none) (fun _ => none) (fun _ => 9223372036854775807) (fun _ => nI 0) (fun _ => -1)) ∧ Kp kNoL h h9) := by
  refine Ct.of (by decide) rfl (fun Γ X rr hmn => ?_)
  have X : Cx l D cX1_begins RX1 2 (rmC 5 110 14 105) Γ := X
  show J Γ h 0 0 0 [(0, .ref t)] []
  refine J_iconst X (nI 0) (dt tX1_begins 0 rfl) (by decide) ?_
  refine J_istore_n X (lv2 := [(1, .int (nI 0)), (0, .ref t)]) (dt tX1_begins 1 rfl) rfl rfl rfl ?_
  refine J_sub [1, 0] rfl ?_
  refine up_to 7 (P := fun i2 => ∀ g1 : PH, ∀ (ea : Nat) (rc : Nat → Nat), (Rl D b g1 a1 i2 ea rc (fun _ => none) (fun _ => none) (fun _ => 9223372036854775807) (fun _ => nI 0) (fun _ => -1)) → (Kp kNoL h g1) → J Γ g1 (2 * i2) (15 * i2) 2 [(0, .ref t), (1, .int (nI i2))] []) ?_ ?_ h 0 (fun _ => 0) (Rl.zero hl bl hx) Kp.rf
  · intro g1 ea rc k1 k2
    show J Γ g1 (2 * 7) (15 * 7) 2 [(0, .ref t), (1, .int (nI 7))] []
    refine J_widen (k2 := 14) (n2 := 105) (by omega) (by omega) ?_
    refine J_iload_n X (dt tX1_begins 2 rfl) 1 rfl ?_
    refine J_bipush X (nI 7) (dt tX1_begins 3 rfl) (by decide) ?_
    refine J_icmp_ge X 29 (dt tX1_begins 4 rfl) (by decide) (fun _ => ?_) (fun c9 => absurd (by decide) c9)
    refine J_aload_n X (dt tX1_begins 14 rfl) 0 rfl ?_
    exact J_aret X rr (dt tX1_begins 15 rfl) (Nat.le_of_ble_eq_true rfl) (Nat.le_of_ble_eq_true rfl) (Or.inl ⟨_, rfl⟩) (Or.inr ⟨_, rfl⟩) ⟨rfl, ⟨ea, rc, k1⟩, k2⟩
  · intro i2 hi2 ih g1 ea rc k1 k2
    show J Γ g1 (2 * i2) (15 * i2) 2 [(0, .ref t), (1, .int (nI i2))] []
    refine J_iload_n X (dt tX1_begins 2 rfl) 1 rfl ?_
    refine J_bipush X (nI 7) (dt tX1_begins 3 rfl) (by decide) ?_
    refine J_icmp_ge X 29 (dt tX1_begins 4 rfl) (by decide) (fun c9 => absurd c9 (nI_ge hi2 (by omega))) (fun _ => ?_)
    refine J_aload_n X (dt tX1_begins 5 rfl) 0 rfl ?_
    refine g_X1_20_1 X (dt tX1_begins 6 rfl) (k2 _ _ ht rfl) rfl ?_
    refine n_X1_31 X (dt tX1_begins 7 rfl) (by show 2 * i2 + 1 ≤ 14; omega) (by show 15 * i2 + 5 ≤ 105; omega) (fun q3 fq3 => ?_)
    refine J_dup X (dt tX1_begins 8 rfl) rfl ?_
    refine J_callIN (rest := [.ref q3, .ref a1]) X (dt tX1_begins 9 rfl) (c_Cinit l D _ (pu_s _ _ _)) (lw_meth q211) q76 q209 q210 rfl okX2_init rfl ⟨Nat.le_of_ble_eq_true rfl, Nat.le_of_ble_eq_true rfl⟩ rfl (Nat.le_of_ble_eq_true rfl) (by show 2 * i2 + 1 + 0 ≤ 14; omega) (by show 15 * i2 + 5 + 0 ≤ 105; omega) (fun v9 h9 hp9 => ?_)
    obtain ⟨rfl, e9⟩ := hp9
    rw [e9]
    refine J_heap (h2 := pu g1 q3 (eo 4 [.null, .null, .long (9223372036854775807), .int (nI 0), .int (-1)])) (pu_pu _ _ _ _) ?_
    show J Γ (pu g1 q3 (eo 4 [.null, .null, .long (9223372036854775807), .int (nI 0), .int (-1)])) (2 * i2 + 1 + 0) (15 * i2 + 5 + 0) 19 [(0, .ref t), (1, .int (nI i2))] [.ref q3, .ref a1]
    refine J_callVR (rest := []) X (T := TJ2) (dt tX1_begins 10 rfl) (c_LAaddR l D _ (k1.new (Ext.new fq3)) (by omega) (by exact (pu_s _ _ _)) (k1.ext.no fq3) (fun z hz => ne_f (k1.cr hz) fq3)) (lw_V q238 q239 q240 q73 q241) okJ2_add rfl (Or.inl (pu_o (ne_f k1.cl fq3) k1.cl)) rfl ⟨Nat.le_of_ble_eq_true rfl, Nat.le_of_ble_eq_true rfl⟩ rfl (Nat.le_of_ble_eq_true rfl) (by show 2 * i2 + 1 + 0 + 1 ≤ 14; omega) (by show 15 * i2 + 5 + 0 + 10 ≤ 105; omega) (fun v9 g4 hp9 => ?_)
    obtain ⟨rfl, ⟨ea2, R2⟩, kp2⟩ := hp9
    show J Γ g4 (2 * i2 + 1 + 0 + 1) (15 * i2 + 5 + 0 + 10) 22 [(0, .ref t), (1, .int (nI i2))] [.int (nI 1)]
    refine J_pop X (dt tX1_begins 11 rfl) rfl ?_
    refine J_iinc X (lv2 := [(1, .int (nI (i2 + 1))), (0, .ref t)]) (dt tX1_begins 12 rfl) 1 (nI (i2 + 1)) rfl (nI_add i2 1) rfl rfl ?_
    refine J_goto X (tgt := 2) (dt tX1_begins 13 rfl) (by decide) ?_
    refine J_sub [1, 0] rfl ?_
    refine J_widen (k2 := 2 * (i2 + 1)) (n2 := 15 * (i2 + 1)) (by omega) (by omega) ?_
    exact ih _ _ _ R2 (k2.trans ((Kp.ext (Ext.new fq3)).trans kp2))
