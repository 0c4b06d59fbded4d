/-! printed by gen/compw.py -/
set_option maxRecDepth 100000
theorem q461 : (Jvm.Cond.instantiable "LeadRaces$Refusal" (7 : Nat)) ∈ lw_all := lw_g (lw_at lw_m2 153 rfl) rfl
theorem q493 : (Jvm.Cond.classLink "LeadRaces" (3 : Nat) "LeadRaces$Refusal") ∈ lw_all := lw_g (lw_at lw_m2 185 rfl) rfl
theorem q494 : (Jvm.Cond.methodLink "LeadRaces" (5 : Nat) ({ cls := "LeadRaces$Refusal", name := "<init>", desc := "(I)V" } : Jvm.MethodName)) ∈ lw_all := lw_g (lw_at lw_m2 186 rfl) rfl
theorem q495 : (Jvm.Cond.instanceMethod ({ cls := "LeadRaces$Refusal", name := "<init>", desc := "(I)V" } : Jvm.MethodName)) ∈ lw_all := lw_g (lw_at lw_m2 187 rfl) rfl
theorem q496 : (Jvm.Cond.code ({ cls := "LeadRaces$Refusal", name := "<init>", desc := "(I)V" } : Jvm.MethodName) prog_8_method_2_code (2 : Nat) (Option.none : Option Jvm.ClassFile.FieldType)) ∈ lw_all := lw_g (lw_at lw_m2 188 rfl) rfl
/-- a refusal with the code c is thrown, a new object -/
def RfX (D : va_G) (h : PH) (c : Int32) : String → Nat → PH → Prop := fun E q h' => E = "LeadRaces$Refusal" ∧ h q = none ∧ ∃ cz r1 r2 : Option Nat, h' = pu h q (eo 9 [va_rf cz, va_rf r1, va_rf r2, .ref (kA D 0), .null, .int (nI 0), .int c])
def NoX : String → Nat → PH → Prop := fun _ _ _ => False
def NoR : Option Value → PH → Prop := fun _ _ => False
def k_inR (v lo hi : Int32) : Int32 := if v < lo then nI 0 else if hi < v then nI 0 else nI 1
theorem k_inR_B (v lo hi : Int32) : isB (k_inR v lo hi) := isB_ite isB_0 (isB_ite isB_0 isB_1)
theorem k_inR_iff {v lo hi : Int32} : ¬ k_inR v lo hi = 0 ↔ lo.toInt ≤ v.toInt ∧ v.toInt ≤ hi.toInt := by
  unfold k_inR
  by_cases h1 : v < lo
  · rw [if_pos h1]
    have := Int32.lt_iff_toInt_lt.mp h1
    exact ⟨fun z => absurd rfl z, fun z => by omega⟩
  · rw [if_neg h1]
    have g1 : ¬ v.toInt < lo.toInt := fun z => h1 (Int32.lt_iff_toInt_lt.mpr z)
    by_cases h2 : hi < v
    · rw [if_pos h2]
      have := Int32.lt_iff_toInt_lt.mp h2
      exact ⟨fun z => absurd rfl z, fun z => by omega⟩
    · rw [if_neg h2]
      have g2 : ¬ hi.toInt < v.toInt := fun z => h2 (Int32.lt_iff_toInt_lt.mpr z)
      exact ⟨fun _ => by omega, fun _ => by decide⟩
/-- the component's test is the reference's -/
theorem k_inR_m {v lo hi : Int32} {lo' hi' : Int64} (h1 : lo'.toInt = lo.toInt) (h2 : hi'.toInt = hi.toInt) : k_inR v lo hi = m_in v.toInt64 lo' hi' := by
  have a := k_inR_iff (v := v) (lo := lo) (hi := hi)
  have b := m_in_iff (v := v.toInt64) (lo := lo') (hi := hi')
  rw [Int32.toInt_toInt64, h1, h2] at b
  have c := a.trans b.symm
  rcases k_inR_B v lo hi with e | e <;> rcases m_in_B v.toInt64 lo' hi' with f | f
  · rw [e, f]
  · rw [e, f] at c
    exact absurd (c.mpr (by decide)) (by decide)
  · rw [e, f] at c
    exact absurd (c.mp (by decide)) (by decide)
  · rw [e, f]
abbrev cX0_inRange : ByteArray := prog_1_method_1_code
def yX0_inRange : MethodName := ⟨RX0, "inRange", "(III)Z"⟩
theorem tX0_inRange : dtab cX0_inRange [(0, .iload_n 0, 1, 1), (1, .iload_n 1, 1, 2), (2, .if_icmp .lt 12, 3, 5), (5, .iload_n 0, 1, 6), (6, .iload_n 2, 1, 7), (7, .if_icmp .gt 7, 3, 10), (10, .iconst 1, 1, 11), (11, .goto 4, 3, 14), (14, .iconst 0, 1, 15), (15, .ireturn, 1, 16)] := by unfold dtab; decide +kernel
theorem okX0_inRange : okY yX0_inRange 3 := by decide +kernel
set_option maxHeartbeats 4000000 in
theorem c_inR (l : Launch) (D : va_G) (h : PH) (v lo hi : Int32)   : Ct l D yX0_inRange cX0_inRange 3 (some .boolean) (rmC 0 0 0 0) [.int v, .int lo, .int hi] h (PS h (some (.int (k_inR v lo hi)))) := by
  refine Ct.of (by decide) rfl (fun Γ X rr hmn => ?_)
  have X : Cx l D cX0_inRange RX0 3 (rmC 0 0 0 0) Γ := X
  show J Γ h 0 0 0 [(0, .int v), (1, .int lo), (2, .int hi)] []
  refine J_iload_n X (dt tX0_inRange 0 rfl) 0 rfl ?_
  refine J_iload_n X (dt tX0_inRange 1 rfl) 1 rfl ?_
  have kj4 : ∀ v3 : Int32, v3 = (if v < lo then nI 0 else if hi < v then nI 0 else nI 1) → J Γ h 0 0 15 [(0, .int v), (1, .int lo), (2, .int hi)] [.int v3] := by
    intro v3 ev3
    exact J_zret X rr (dt tX0_inRange 9 rfl) (Nat.le_of_ble_eq_true rfl) (Nat.le_of_ble_eq_true rfl) (isB.nar (by rw [ev3]; exact k_inR_B v lo hi)) ⟨congrArg (fun z => some (Value.int z)) ev3, rfl⟩
  refine J_icmp_lt X 14 (dt tX0_inRange 2 rfl) (by decide) (fun c1 => ?_) (fun c1 => ?_)
  · refine J_iconst X (nI 0) (dt tX0_inRange 8 rfl) (by decide) ?_
    exact kj4 _ (if_pos c1).symm
  · refine J_iload_n X (dt tX0_inRange 3 rfl) 0 rfl ?_
    refine J_iload_n X (dt tX0_inRange 4 rfl) 2 rfl ?_
    refine J_icmp_gt X 14 (dt tX0_inRange 5 rfl) (by decide) (fun c2 => ?_) (fun c2 => ?_)
    · refine J_iconst X (nI 0) (dt tX0_inRange 8 rfl) (by decide) ?_
      exact kj4 _ ((if_neg c1).trans (if_pos c2)).symm
    · refine J_iconst X (nI 1) (dt tX0_inRange 6 rfl) (by decide) ?_
      refine J_goto X (tgt := 15) (dt tX0_inRange 7 rfl) (by decide) ?_
      exact kj4 _ ((if_neg c1).trans (if_neg c2)).symm
abbrev cX0_want : ByteArray := prog_1_method_2_code
def yX0_want : MethodName := ⟨RX0, "want", "(ZI)V"⟩
theorem tX0_want : dtab cX0_want [(0, .iload_n 0, 1, 1), (1, .ifCond .ne 12, 3, 4), (4, .new 3, 3, 7), (7, .dup, 1, 8), (8, .iload_n 1, 1, 9), (9, .invokespecial 5, 3, 12), (12, .athrow, 1, 13), (13, .return_, 1, 14)] := by unfold dtab; decide +kernel
theorem okX0_want : okY yX0_want 2 := by decide +kernel
set_option maxHeartbeats 4000000 in
theorem c_wantT (l : Launch) (D : va_G) (h : PH) {x c : Int32}  (hx : ¬ x = 0) : Ct l D yX0_want cX0_want 2 none (rmC 0 0 0 0) [.int x, .int c] h (PS h none) := by
  refine Ct.of (by decide) rfl (fun Γ X rr hmn => ?_)
  have X : Cx l D cX0_want RX0 2 (rmC 0 0 0 0) Γ := X
  show J Γ h 0 0 0 [(0, .int x), (1, .int c)] []
  refine J_iload_n X (dt tX0_want 0 rfl) 0 rfl ?_
  refine J_if_ne X 13 (dt tX0_want 1 rfl) (by decide) (fun _ => ?_) (fun c9 => absurd c9 (hx))
  exact J_vret X rr (dt tX0_want 7 rfl) (Nat.le_of_ble_eq_true rfl) (Nat.le_of_ble_eq_true rfl) ⟨rfl, rfl⟩
set_option maxHeartbeats 4000000 in
theorem c_wantF (l : Launch) (D : va_G) (h : PH) {x c : Int32}  (hl9 : l.stackTraces = false) (hx : x = 0) : Cq l D yX0_want (ws_ yX0_want cX0_want 2 none) (rmC 7 137 1 7) [.int x, .int c] h (NoR) (RfX D h c) := by
  refine Cq.of (by decide) rfl (fun Γ X rr hmn htb hrx => ?_)
  have X : Cx l D cX0_want RX0 2 (rmC 7 137 1 7) Γ := X
  show J Γ h 0 0 0 [(0, .int x), (1, .int c)] []
  refine J_iload_n X (dt tX0_want 0 rfl) 0 rfl ?_
  refine J_if_ne X 13 (dt tX0_want 1 rfl) (by decide) (fun c9 => absurd hx c9) (fun _ => ?_)
  refine J_newM X (fs := [.null, .null, .null, .null, .null, .int (nI 0), .int (nI 0)]) (tf := tyX4) (dt tX0_want 2 rfl) (show vwCl[9]? = some (RX4, TX4, 7) from rfl) in_X4 tyX4_ok q493 q461 q92 (by decide) (Nat.le_of_ble_eq_true rfl) (Nat.le_of_ble_eq_true rfl) (fun q1 fq1 => ?_)
  refine JM_dup X (dt tX0_want 3 rfl) rfl ?_
  refine JM_iload_n X (dt tX0_want 4 rfl) 1 rfl ?_
  refine JM_callI (rest := [.ref q1]) X (dt tX0_want 5 rfl) (pu_s _ _ _) (c_Ref1 l D _ (cz := none) (co := c) hl9 (pu_s _ _ _)) (lw_meth q496) q92 q494 q495 rfl okX4_init_2 rfl ⟨Nat.le_of_ble_eq_true rfl, Nat.le_of_ble_eq_true rfl⟩ rfl (Nat.le_of_ble_eq_true rfl) (Nat.le_of_ble_eq_true rfl) (Nat.le_of_ble_eq_true rfl) (fun v9 h9 hp9 => ?_)
  obtain ⟨r2, r3, rfl, rfl⟩ := hp9
  refine JM_athrow X (dt tX0_want 6 rfl) (pu_s _ _ _) (show vwCl[9]? = some (RX4, TX4, 7) from rfl) ?_
  exact JX_out X hrx htb (fun x hx => nomatch hx) (Nat.le_of_ble_eq_true rfl) (Nat.le_of_ble_eq_true rfl) ⟨rfl, fq1, none, r2, r3, pu_pu _ _ _ _⟩
