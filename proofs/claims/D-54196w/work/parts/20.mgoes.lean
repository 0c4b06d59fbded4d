/-! printed by gen/modelm.py -/
set_option maxRecDepth 100000
theorem q2046 : (Jvm.Cond.methodLink "LeadRacesModel" (163 : Nat) ({ cls := "LeadRacesModel", name := "goesTo", desc := "(I)Z" } : Jvm.MethodName)) ∈ lw_all := lw_g (lw_at lw_m9 58 rfl) rfl
theorem q2048 : (Jvm.Cond.instanceMethod ({ cls := "LeadRacesModel", name := "goesTo", desc := "(I)Z" } : Jvm.MethodName)) ∈ lw_all := lw_g (lw_at lw_m9 60 rfl) rfl
theorem q2049 : (Jvm.Cond.code ({ cls := "LeadRacesModel", name := "goesTo", desc := "(I)Z" } : Jvm.MethodName) prog_12_method_43_code (4 : Nat) (Option.some Jvm.ClassFile.FieldType.boolean)) ∈ lw_all := lw_g (lw_at lw_m9 61 rfl) rfl
theorem q2050 : (Jvm.Cond.methodLink "LeadRacesModel" (160 : Nat) ({ cls := "LeadRacesModel", name := "nextOther", desc := "(II)I" } : Jvm.MethodName)) ∈ lw_all := lw_g (lw_at lw_m9 62 rfl) rfl
theorem q2052 : (Jvm.Cond.instanceMethod ({ cls := "LeadRacesModel", name := "nextOther", desc := "(II)I" } : Jvm.MethodName)) ∈ lw_all := lw_g (lw_at lw_m9 64 rfl) rfl
theorem q2053 : (Jvm.Cond.code ({ cls := "LeadRacesModel", name := "nextOther", desc := "(II)I" } : Jvm.MethodName) prog_12_method_42_code (9 : Nat) (Option.some Jvm.ClassFile.FieldType.int)) ∈ lw_all := lw_g (lw_at lw_m9 65 rfl) rfl
/-! the reference: the row of leaders to come -/
theorem sV_swap {i j : Nat} (hij : i ≠ j) (σ : MS) (x y z : Int32) : sV (sV (sV σ i x) j y) i z = sV (sV σ j y) i z := by
  unfold sV
  refine Prod.ext rfl ?_
  funext k
  show (if k = i then z else if k = j then y else if k = i then x else σ.2 k) = if k = i then z else if k = j then y else σ.2 k
  by_cases h : k = i
  · rw [if_pos h, if_pos h]
  · rw [if_neg h, if_neg h, if_neg h]
theorem m_has_v {σ τ : MS} (h : τ.1 0 = σ.1 0) (i : Nat) : m_has τ i = m_has σ i := by unfold m_has; rw [h]
theorem m_isAhead_v {σ τ : MS} (h : τ.1 0 = σ.1 0) (i j : Nat) (t : Int32) : m_isAhead τ i j t = m_isAhead σ i j t := by
  unfold m_isAhead m_by m_placeBehind
  rw [h]
theorem m_lb_v {σ τ : MS} (h : τ.1 0 = σ.1 0) (t : Int32) (i : Nat) : m_lb τ t i = m_lb σ t i := by
  induction i with
  | zero => rfl
  | succ i ih =>
    rw [m_lb, m_lb, ih, m_has_v h]
    cases m_lb σ t i with
    | none => rfl
    | some b => dsimp only; rw [m_isAhead_v h]
theorem m_nx_v {σ τ : MS} (h : τ.1 0 = σ.1 0) (j : Nat) (f : Int32) (i : Nat) : m_nx τ j f i = m_nx σ j f i := by
  induction i with
  | zero => rfl
  | succ i ih =>
    have e1 : m_nxv τ j f i = m_nxv σ j f i := by unfold m_nxv m_apart m_gains; rw [h]
    have e2 : m_gains τ i j = m_gains σ i j := by unfold m_gains; rw [h]
    rw [m_nx, m_nx, ih, m_has_v h, e1, e2]
def m_sq (σ : MS) : Nat → Option (Nat × Int32)
  | 0 => (m_lb σ (nI 0) 8).map (fun j => (j, nI 0))
  | i + 1 => match m_sq σ i with
    | none => none
    | some q => if m_nx σ q.1 q.2 8 = -1 then none else (m_lb σ (m_nx σ q.1 q.2 8) 8).map (fun j => (j, m_nx σ q.1 q.2 8))
theorem m_sq_n {σ : MS} {i : Nat} (h : m_sq σ i = none) : m_sq σ (i + 1) = none := by rw [m_sq, h]
theorem m_sq_c {σ : MS} {i j : Nat} {f : Int32} (h : m_sq σ i = some (j, f)) : m_sq σ (i + 1) = if m_nx σ j f 8 = -1 then none else (m_lb σ (m_nx σ j f 8) 8).map (fun q => (q, m_nx σ j f 8)) := by rw [m_sq, h]
theorem m_sq_stop {σ : MS} {i : Nat} (h : m_sq σ i = none) (k : Nat) : m_sq σ (i + k) = none := by
  induction k with
  | zero => exact h
  | succ k ih => exact m_sq_n ih
theorem m_sq_lt {σ : MS} {i j : Nat} {f : Int32} (h : m_sq σ i = some (j, f)) : j < 8 := by
  cases i with
  | zero =>
    rw [m_sq] at h
    cases e : m_lb σ (nI 0) 8 with
    | none => rw [e] at h; cases h
    | some b => rw [e] at h; cases h; exact m_lb_lt _ _ _ _ e
  | succ i =>
    cases e0 : m_sq σ i with
    | none => rw [m_sq_n e0] at h; cases h
    | some q =>
      obtain ⟨q1, q2⟩ := q
      rw [m_sq_c e0] at h
      split at h
      · cases h
      · cases e : m_lb σ (m_nx σ q1 q2 8) 8 with
        | none => rw [e] at h; cases h
        | some b => rw [e] at h; cases h; exact m_lb_lt _ _ _ _ e
def PG (h0 : PH) (m : Nat) (ar : Nat → Nat) (σ : MS) (ix : Nat) : Option Value → PH → Prop := fun v h' => ∃ a b : Int32, v = some (.int (if (m_sq σ ix).isSome then 1 else 0)) ∧ h' = mh h0 m ar (sV (sV σ 2 b) 1 a) ∧ ∀ j f, m_sq σ ix = some (j, f) → a = nI j ∧ b = f
/-- where a walk along the row stands: at a leader j in b moments, or at none -/
def atR (σ : MS) (i : Nat) (a b : Int32) : Prop := (∃ j, m_sq σ i = some (j, b) ∧ a = nI j) ∨ (m_sq σ i = none ∧ a = -1)
theorem atR_0 (σ : MS) : atR σ 0 (on (m_lb σ (nI 0) 8)) (nI 0) := by
  cases e : m_lb σ (nI 0) 8 with
  | none => exact Or.inr ⟨by rw [m_sq, e]; rfl, rfl⟩
  | some j => exact Or.inl ⟨j, by rw [m_sq, e]; rfl, rfl⟩
theorem atR_s {σ : MS} {i j : Nat} {f : Int32} (h : m_sq σ i = some (j, f)) (hn : ¬ m_nx σ j f 8 = -1) : atR σ (i + 1) (on (m_lb σ (m_nx σ j f 8) 8)) (m_nx σ j f 8) := by
  cases e : m_lb σ (m_nx σ j f 8) 8 with
  | none => exact Or.inr ⟨by rw [m_sq_c h, if_neg hn, e]; rfl, rfl⟩
  | some q => exact Or.inl ⟨q, by rw [m_sq_c h, if_neg hn, e]; rfl, rfl⟩
abbrev cX3_goesTo : ByteArray := prog_12_method_43_code
def yX3_goesTo : MethodName := ⟨RX3, "goesTo", "(I)Z"⟩
theorem tX3_goesTo : dtab cX3_goesTo [(0, .aload_n 0, 1, 1), (1, .iconst 0, 1, 2), (2, .putfield 154, 3, 5), (5, .aload_n 0, 1, 6), (6, .aload_n 0, 1, 7), (7, .iconst 0, 1, 8), (8, .invokevirtual 151, 3, 11), (11, .putfield 157, 3, 14), (14, .iconst 0, 1, 15), (15, .istore_n 2, 1, 16), (16, .aload_n 0, 1, 17), (17, .getfield 157, 3, 20), (20, .iconst (-1), 1, 21), (21, .if_icmp .eq 48, 3, 24), (24, .iload_n 2, 1, 25), (25, .iload_n 1, 1, 26), (26, .if_icmp .ge 43, 3, 29), (29, .aload_n 0, 1, 30), (30, .aload_n 0, 1, 31), (31, .getfield 157, 3, 34), (34, .aload_n 0, 1, 35), (35, .getfield 154, 3, 38), (38, .invokevirtual 160, 3, 41), (41, .istore_n 3, 1, 42), (42, .iload_n 3, 1, 43), (43, .iconst (-1), 1, 44), (44, .if_icmp .ne 5, 3, 47), (47, .iconst 0, 1, 48), (48, .ireturn, 1, 49), (49, .aload_n 0, 1, 50), (50, .iload_n 3, 1, 51), (51, .putfield 154, 3, 54), (54, .aload_n 0, 1, 55), (55, .aload_n 0, 1, 56), (56, .iload_n 3, 1, 57), (57, .invokevirtual 151, 3, 60), (60, .putfield 157, 3, 63), (63, .iinc 2 1, 3, 66), (66, .goto (-50), 3, 69), (69, .aload_n 0, 1, 70), (70, .getfield 157, 3, 73), (73, .iconst (-1), 1, 74), (74, .if_icmp .eq 7, 3, 77), (77, .iconst 1, 1, 78), (78, .goto 4, 3, 81), (81, .iconst 0, 1, 82), (82, .ireturn, 1, 83)] := by unfold dtab; decide +kernel
theorem okX3_goesTo : okY yX3_goesTo 1 := by decide +kernel
set_option maxHeartbeats 4000000 in
theorem c_goesTo (l : Launch) (D : va_G) {h0 : PH} {m : Nat} {ar : Nat → Nat} (hd : md m ar) (σ : MS) (ix : Nat) (hix : ix < 2 ^ 30) : Ct l D yX3_goesTo cX3_goesTo 4 (some .boolean) (rmM 3 69) [.ref m, .int (nI ix)] (mh h0 m ar σ) (PG h0 m ar σ ix) := by
  refine Ct.of (by decide) rfl (fun Γ X rr hmn => ?_)
  have X : Cx l D cX3_goesTo RX3 4 (rmM 3 69) Γ := X
  show J Γ (mh h0 m ar σ) 0 0 0 [(0, .ref m), (1, .int (nI ix))] []
  refine J_aload_n X (dt tX3_goesTo 0 rfl) 0 rfl ?_
  refine J_iconst X (nI 0) (dt tX3_goesTo 1 rfl) (by decide) ?_
  refine M_put_comesIn X (dt tX3_goesTo 2 rfl) ?_
  refine J_aload_n X (dt tX3_goesTo 3 rfl) 0 rfl ?_
  refine J_aload_n X (dt tX3_goesTo 4 rfl) 0 rfl ?_
  refine J_iconst X (nI 0) (dt tX3_goesTo 5 rfl) (by decide) ?_
  refine M_callV (rest := [.ref m]) X (dt tX3_goesTo 6 rfl) (c_leaderBehind l D hd (sV σ 2 (nI 0)) (nI 0) ) (lw_V q2038 q2040 qs58 q86 q2041) okX3_leaderBehind rfl rfl ⟨Nat.le_of_ble_eq_true rfl, Nat.le_of_ble_eq_true rfl⟩ rfl (Nat.le_of_ble_eq_true rfl) (Nat.zero_le _) (Nat.zero_le _) ?_
  refine J_topi (show m_leaderBehind (sV σ 2 (nI 0)) (nI 0) = on (m_lb σ (nI 0) 8) from congrArg on (m_lb_v (σ := σ) (τ := sV σ 2 (nI 0)) rfl (nI 0) 8)) ?_
  refine M_put_comesLane X (dt tX3_goesTo 7 rfl) ?_
  refine J_iconst X (nI 0) (dt tX3_goesTo 8 rfl) (by decide) ?_
  refine J_istore_n X (lv2 := [(2, .int (nI 0)), (0, .ref m), (1, .int (nI ix))]) (dt tX3_goesTo 9 rfl) rfl rfl rfl ?_
  have key : ∀ d i, i + d = ix → ∀ a b : Int32, atR σ i a b → J Γ (mh h0 m ar (sV (sV σ 2 b) 1 a)) 0 0 16 [(0, .ref m), (1, .int (nI ix)), (2, .int (nI i))] [] := by
    intro d
    induction d with
    | zero =>
      intro i hi a b hab
      obtain rfl : i = ix := by omega
      rcases hab with ⟨j, hs, rfl⟩ | ⟨hz, rfl⟩
      · have hj := m_sq_lt hs
        refine J_aload_n X (dt tX3_goesTo 10 rfl) 0 rfl ?_
        refine M_get_comesLane X (dt tX3_goesTo 11 rfl) ?_
        refine J_iconst X (-1) (dt tX3_goesTo 12 rfl) (by decide) ?_
        refine J_icmp_eq X 69 (dt tX3_goesTo 13 rfl) (by decide) (fun c9 => absurd c9 (nI_nm1 (by omega))) (fun _ => ?_)
        refine J_iload_n X (dt tX3_goesTo 14 rfl) 2 rfl ?_
        refine J_iload_n X (dt tX3_goesTo 15 rfl) 1 rfl ?_
        refine J_icmp_ge X 69 (dt tX3_goesTo 16 rfl) (by decide) (fun _ => ?_) (fun c9 => absurd (nI_le (Nat.le_refl i) (by omega)) c9)
        refine J_aload_n X (dt tX3_goesTo 39 rfl) 0 rfl ?_
        refine M_get_comesLane X (dt tX3_goesTo 40 rfl) ?_
        refine J_iconst X (-1) (dt tX3_goesTo 41 rfl) (by decide) ?_
        refine J_icmp_eq X 81 (dt tX3_goesTo 42 rfl) (by decide) (fun c9 => absurd c9 (nI_nm1 (by omega))) (fun _ => ?_)
        refine J_iconst X (nI 1) (dt tX3_goesTo 43 rfl) (by decide) ?_
        refine J_goto X (tgt := 82) (dt tX3_goesTo 44 rfl) (by decide) ?_
        exact J_zret X rr (dt tX3_goesTo 46 rfl) (Nat.zero_le _) (Nat.zero_le _) (isB.nar (by first | exact isB_0 | exact isB_1)) ⟨nI j, b, by rw [hs]; rfl, rfl, fun j9 f9 e9 => by rw [hs] at e9; cases e9; exact ⟨rfl, rfl⟩⟩
      · refine J_aload_n X (dt tX3_goesTo 10 rfl) 0 rfl ?_
        refine M_get_comesLane X (dt tX3_goesTo 11 rfl) ?_
        refine J_iconst X (-1) (dt tX3_goesTo 12 rfl) (by decide) ?_
        refine J_icmp_eq X 69 (dt tX3_goesTo 13 rfl) (by decide) (fun _ => ?_) (fun c9 => absurd (rfl) c9)
        refine J_aload_n X (dt tX3_goesTo 39 rfl) 0 rfl ?_
        refine M_get_comesLane X (dt tX3_goesTo 40 rfl) ?_
        refine J_iconst X (-1) (dt tX3_goesTo 41 rfl) (by decide) ?_
        refine J_icmp_eq X 81 (dt tX3_goesTo 42 rfl) (by decide) (fun _ => ?_) (fun c9 => absurd (rfl) c9)
        refine J_iconst X (nI 0) (dt tX3_goesTo 45 rfl) (by decide) ?_
        exact J_zret X rr (dt tX3_goesTo 46 rfl) (Nat.zero_le _) (Nat.zero_le _) (isB.nar (by first | exact isB_0 | exact isB_1)) ⟨-1, b, by rw [hz]; rfl, rfl, fun j9 f9 e9 => by rw [hz] at e9; cases e9⟩
    | succ d ih =>
      intro i hi a b hab
      rcases hab with ⟨j, hs, rfl⟩ | ⟨hn, rfl⟩
      · have hj := m_sq_lt hs
        refine J_aload_n X (dt tX3_goesTo 10 rfl) 0 rfl ?_
        refine M_get_comesLane X (dt tX3_goesTo 11 rfl) ?_
        refine J_iconst X (-1) (dt tX3_goesTo 12 rfl) (by decide) ?_
        refine J_icmp_eq X 69 (dt tX3_goesTo 13 rfl) (by decide) (fun c9 => absurd c9 (nI_nm1 (by omega))) (fun _ => ?_)
        refine J_iload_n X (dt tX3_goesTo 14 rfl) 2 rfl ?_
        refine J_iload_n X (dt tX3_goesTo 15 rfl) 1 rfl ?_
        refine J_icmp_ge X 69 (dt tX3_goesTo 16 rfl) (by decide) (fun c9 => absurd c9 (nI_ge (by omega) (by omega))) (fun _ => ?_)
        refine J_aload_n X (dt tX3_goesTo 17 rfl) 0 rfl ?_
        refine J_aload_n X (dt tX3_goesTo 18 rfl) 0 rfl ?_
        refine M_get_comesLane X (dt tX3_goesTo 19 rfl) ?_
        refine J_aload_n X (dt tX3_goesTo 20 rfl) 0 rfl ?_
        refine M_get_comesIn X (dt tX3_goesTo 21 rfl) ?_
        refine M_callV (rest := []) X (dt tX3_goesTo 22 rfl) (c_nextOther l D hd (sV (sV σ 2 b) 1 (nI j)) j b (by omega)) (lw_V q2050 q2052 qs60 q86 q2053) okX3_nextOther rfl rfl ⟨Nat.le_of_ble_eq_true rfl, Nat.le_of_ble_eq_true rfl⟩ rfl (Nat.le_of_ble_eq_true rfl) (Nat.zero_le _) (Nat.zero_le _) ?_
        refine J_topi (m_nx_v (σ := σ) (τ := sV (sV σ 2 b) 1 (nI j)) rfl j b 8) ?_
        refine J_istore_n X (lv2 := [(3, .int (m_nx σ j b 8)), (0, .ref m), (1, .int (nI ix)), (2, .int (nI i))]) (dt tX3_goesTo 23 rfl) rfl rfl rfl ?_
        refine J_iload_n X (dt tX3_goesTo 24 rfl) 0 rfl ?_
        refine J_iconst X (-1) (dt tX3_goesTo 25 rfl) (by decide) ?_
        refine J_icmp_ne X 49 (dt tX3_goesTo 26 rfl) (by decide) (fun c1 => ?_) (fun c1 => ?_)
        · refine J_aload_n X (dt tX3_goesTo 29 rfl) 1 rfl ?_
          refine J_iload_n X (dt tX3_goesTo 30 rfl) 0 rfl ?_
          refine M_put_comesIn X (dt tX3_goesTo 31 rfl) ?_
          refine J_heap (h2 := mh h0 m ar (sV (sV σ 1 (nI j)) 2 (m_nx σ j b 8))) (congrArg (mh h0 m ar) (sV_swap (by decide) _ _ _ _)) ?_
          refine J_aload_n X (dt tX3_goesTo 32 rfl) 1 rfl ?_
          refine J_aload_n X (dt tX3_goesTo 33 rfl) 1 rfl ?_
          refine J_iload_n X (dt tX3_goesTo 34 rfl) 0 rfl ?_
          refine M_callV (rest := [.ref m]) X (dt tX3_goesTo 35 rfl) (c_leaderBehind l D hd (sV (sV σ 1 (nI j)) 2 (m_nx σ j b 8)) (m_nx σ j b 8) ) (lw_V q2038 q2040 qs58 q86 q2041) okX3_leaderBehind rfl rfl ⟨Nat.le_of_ble_eq_true rfl, Nat.le_of_ble_eq_true rfl⟩ rfl (Nat.le_of_ble_eq_true rfl) (Nat.zero_le _) (Nat.zero_le _) ?_
          refine J_topi (show m_leaderBehind (sV (sV σ 1 (nI j)) 2 (m_nx σ j b 8)) (m_nx σ j b 8) = on (m_lb σ (m_nx σ j b 8) 8) from congrArg on (m_lb_v (σ := σ) (τ := sV (sV σ 1 (nI j)) 2 (m_nx σ j b 8)) rfl (m_nx σ j b 8) 8)) ?_
          refine M_put_comesLane X (dt tX3_goesTo 36 rfl) ?_
          refine J_heap (h2 := mh h0 m ar (sV (sV σ 2 (m_nx σ j b 8)) 1 (on (m_lb σ (m_nx σ j b 8) 8)))) (congrArg (mh h0 m ar) (sV_swap (by decide) _ _ _ _)) ?_
          refine J_iinc X (lv2 := [(2, .int (nI (i + 1))), (3, .int (m_nx σ j b 8)), (0, .ref m), (1, .int (nI ix))]) (dt tX3_goesTo 37 rfl) 3 (nI (i + 1)) rfl (nI_add i 1) rfl rfl ?_
          refine J_goto X (tgt := 16) (dt tX3_goesTo 38 rfl) (by decide) ?_
          refine J_sub [2, 3, 0] rfl ?_
          exact ih (i + 1) (by omega) _ _ (atR_s hs c1)
        · have hz : m_sq σ ix = none := by rw [← hi, show i + (d + 1) = (i + 1) + d by omega]; exact m_sq_stop (by rw [m_sq_c hs, if_pos c1]) d
          refine J_iconst X (nI 0) (dt tX3_goesTo 27 rfl) (by decide) ?_
          exact J_zret X rr (dt tX3_goesTo 28 rfl) (Nat.zero_le _) (Nat.zero_le _) (isB.nar (by first | exact isB_0 | exact isB_1)) ⟨nI j, b, by rw [hz]; rfl, rfl, fun j9 f9 e9 => by rw [hz] at e9; cases e9⟩
      · have hz : m_sq σ ix = none := by rw [← hi]; exact m_sq_stop hn (d + 1)
        refine J_aload_n X (dt tX3_goesTo 10 rfl) 0 rfl ?_
        refine M_get_comesLane X (dt tX3_goesTo 11 rfl) ?_
        refine J_iconst X (-1) (dt tX3_goesTo 12 rfl) (by decide) ?_
        refine J_icmp_eq X 69 (dt tX3_goesTo 13 rfl) (by decide) (fun _ => ?_) (fun c9 => absurd (rfl) c9)
        refine J_aload_n X (dt tX3_goesTo 39 rfl) 0 rfl ?_
        refine M_get_comesLane X (dt tX3_goesTo 40 rfl) ?_
        refine J_iconst X (-1) (dt tX3_goesTo 41 rfl) (by decide) ?_
        refine J_icmp_eq X 81 (dt tX3_goesTo 42 rfl) (by decide) (fun _ => ?_) (fun c9 => absurd (rfl) c9)
        refine J_iconst X (nI 0) (dt tX3_goesTo 45 rfl) (by decide) ?_
        exact J_zret X rr (dt tX3_goesTo 46 rfl) (Nat.zero_le _) (Nat.zero_le _) (isB.nar (by first | exact isB_0 | exact isB_1)) ⟨-1, b, by rw [hz]; rfl, rfl, fun j9 f9 e9 => by rw [hz] at e9; cases e9⟩
  refine J_sub [1, 2, 0] rfl ?_
  exact key ix 0 (by omega) _ _ (atR_0 σ)
/-- the same numbers but for the two of the walk along the row -/
def scr (σ τ : MS) : Prop := τ.1 = σ.1 ∧ ∀ j, j ≠ 1 → j ≠ 2 → τ.2 j = σ.2 j
theorem scr_rf (σ : MS) : scr σ σ := ⟨rfl, fun _ _ _ => rfl⟩
theorem scr_s {σ τ : MS} (h : scr σ τ) (a b : Int32) : scr σ (sV (sV τ 2 b) 1 a) := by
  refine ⟨h.1, fun j h1 h2 => ?_⟩
  show (if j = 1 then a else if j = 2 then b else τ.2 j) = _
  rw [if_neg h1, if_neg h2]
  exact h.2 j h1 h2
theorem m_sq_v {σ τ : MS} (h : τ.1 0 = σ.1 0) (i : Nat) : m_sq τ i = m_sq σ i := by
  induction i with
  | zero => rw [m_sq, m_sq, m_lb_v h]
  | succ i ih =>
    cases e : m_sq σ i with
    | none => rw [m_sq_n e, m_sq_n (ih.trans e)]
    | some q =>
      obtain ⟨j, f⟩ := q
      rw [m_sq_c e, m_sq_c (ih.trans e), m_nx_v h, m_lb_v h]
def m_settledQ (σ : MS) (v : Int32) : Prop := (m_runners σ = 0 ∧ v = -10000004) ∨ (¬ m_runners σ = 0 ∧ ∃ N j f, m_sq σ N = some (j, f) ∧ m_sq σ (N + 1) = none ∧ v = σ.1 0 0 + f)
def PT (h0 : PH) (m : Nat) (ar : Nat → Nat) (σ : MS) (Q : Int32 → Prop) : Option Value → PH → Prop := fun v h' => ∃ (x : Int32) (τ : MS), v = some (.int x) ∧ h' = mh h0 m ar τ ∧ scr σ τ ∧ Q x
def m_rowV (σ : MS) (x y : Int32) : Int32 := if x < 0 then -10000001 else if m_in y.toInt64 0 1 = 0 then -10000001 else if nI 8 ≤ x then -10000004 else match m_sq σ x.toNatClampNeg with
  | none => -10000004
  | some q => if y = 0 then nI q.1 else σ.1 0 0 + q.2
abbrev cX3_settledAt : ByteArray := prog_12_method_44_code
def yX3_settledAt : MethodName := ⟨RX3, "settledAt", "()I"⟩
theorem tX3_settledAt : dtab cX3_settledAt [(0, .aload_n 0, 1, 1), (1, .invokevirtual 89, 3, 4), (4, .ifCond .ne 6, 3, 7), (7, .ldc 131, 2, 9), (9, .ireturn, 1, 10), (10, .iconst 0, 1, 11), (11, .istore_n 1, 1, 12), (12, .aload_n 0, 1, 13), (13, .iload_n 1, 1, 14), (14, .iconst 1, 1, 15), (15, .iadd, 1, 16), (16, .invokevirtual 163, 3, 19), (19, .ifCond .eq 9, 3, 22), (22, .iinc 1 1, 3, 25), (25, .goto (-13), 3, 28), (28, .aload_n 0, 1, 29), (29, .iload_n 1, 1, 30), (30, .invokevirtual 163, 3, 33), (33, .istore_n 2, 1, 34), (34, .aload_n 0, 1, 35), (35, .getfield 7, 3, 38), (38, .iconst 0, 1, 39), (39, .iaload, 1, 40), (40, .aload_n 0, 1, 41), (41, .getfield 154, 3, 44), (44, .iadd, 1, 45), (45, .ireturn, 1, 46)] := by unfold dtab; decide +kernel
theorem okX3_settledAt : okY yX3_settledAt 0 := by decide +kernel
set_option maxHeartbeats 4000000 in
theorem c_settledAt (l : Launch) (D : va_G) {h0 : PH} {m : Nat} {ar : Nat → Nat} (hd : md m ar) (σ : MS)  (hq : ¬ m_runners σ = 0 → ∃ N, N < 8 ∧ (∀ i, i ≤ N → (m_sq σ i).isSome = true) ∧ m_sq σ (N + 1) = none) : Ct l D yX3_settledAt cX3_settledAt 3 (some .int) (rmM 4 92) [.ref m] (mh h0 m ar σ) (PT h0 m ar σ (m_settledQ σ)) := by
  refine Ct.of (by decide) rfl (fun Γ X rr hmn => ?_)
  have X : Cx l D cX3_settledAt RX3 3 (rmM 4 92) Γ := X
  show J Γ (mh h0 m ar σ) 0 0 0 [(0, .ref m)] []
  refine J_aload_n X (dt tX3_settledAt 0 rfl) 0 rfl ?_
  refine M_callV (rest := []) X (dt tX3_settledAt 1 rfl) (c_runners l D hd σ ) (lw_V q1957 q1959 qs50 q86 q1960) okX3_runners rfl rfl ⟨Nat.le_of_ble_eq_true rfl, Nat.le_of_ble_eq_true rfl⟩ rfl (Nat.le_of_ble_eq_true rfl) (Nat.zero_le _) (Nat.zero_le _) ?_
  refine J_if_ne X 10 (dt tX3_settledAt 2 rfl) (by decide) (fun c1 => ?_) (fun c1 => ?_)
  · obtain ⟨N, hN8, hS, hE⟩ := hq c1
    have key : ∀ d i, i + d = N → ∀ τ : MS, scr σ τ → J Γ (mh h0 m ar τ) 0 0 12 [(0, .ref m), (1, .int (nI i))] [] := by
      intro d
      induction d with
      | zero =>
        intro i hi τ hτ
        have hv : ∀ k, m_sq τ k = m_sq σ k := fun k => m_sq_v (congrFun hτ.1 0) k
        obtain rfl : i = N := by omega
        refine J_aload_n X (dt tX3_settledAt 7 rfl) 0 rfl ?_
        refine J_iload_n X (dt tX3_settledAt 8 rfl) 1 rfl ?_
        refine J_iconst X (nI 1) (dt tX3_settledAt 9 rfl) (by decide) ?_
        refine J_iaddN X (dt tX3_settledAt 10 rfl) ?_
        refine J_callV (rest := []) X (dt tX3_settledAt 11 rfl) (c_goesTo l D hd τ (i + 1) (by omega)) (lw_V q2046 q2048 qs59 q86 q2049) okX3_goesTo rfl mh_m (T := TX3) (N := 15) rfl ⟨Nat.le_of_ble_eq_true rfl, Nat.le_of_ble_eq_true rfl⟩ rfl (Nat.le_of_ble_eq_true rfl) (Nat.zero_le _) (Nat.zero_le _) ?_
        rintro _ _ ⟨a1, b1, rfl, rfl, ha1⟩
        rw [hv, hE]
        refine J_if_eq X 28 (dt tX3_settledAt 12 rfl) (by decide) (fun _ => ?_) (fun c9 => absurd (rfl) c9)
        refine J_aload_n X (dt tX3_settledAt 15 rfl) 0 rfl ?_
        refine J_iload_n X (dt tX3_settledAt 16 rfl) 1 rfl ?_
        have hv2 : m_sq (sV (sV τ 2 b1) 1 a1) i = m_sq σ i := (m_sq_v (σ := τ) (τ := sV (sV τ 2 b1) 1 a1) rfl i).trans (hv i)
        refine J_callV (rest := []) X (dt tX3_settledAt 17 rfl) (c_goesTo l D hd (sV (sV τ 2 b1) 1 a1) i (by omega)) (lw_V q2046 q2048 qs59 q86 q2049) okX3_goesTo rfl mh_m (T := TX3) (N := 15) rfl ⟨Nat.le_of_ble_eq_true rfl, Nat.le_of_ble_eq_true rfl⟩ rfl (Nat.le_of_ble_eq_true rfl) (Nat.zero_le _) (Nat.zero_le _) ?_
        rintro _ _ ⟨a2, b2, rfl, rfl, ha2⟩
        obtain ⟨⟨j9, f9⟩, hs9⟩ := Option.isSome_iff_exists.mp (hS i (Nat.le_refl i))
        obtain ⟨-, rfl⟩ := ha2 j9 f9 (hv2.trans hs9)
        refine J_istore_n X (lv2 := [(2, .int (if (m_sq (sV (sV τ 2 b1) 1 a1) i).isSome then 1 else 0)), (0, .ref m), (1, .int (nI i))]) (dt tX3_settledAt 18 rfl) rfl rfl rfl ?_
        refine J_aload_n X (dt tX3_settledAt 19 rfl) 1 rfl ?_
        refine M_get_all X (dt tX3_settledAt 20 rfl) ?_
        refine J_iconst X (nI 0) (dt tX3_settledAt 21 rfl) (by decide) ?_
        refine M_ald_all X hd (dt tX3_settledAt 22 rfl) (by decide) ?_
        refine J_aload_n X (dt tX3_settledAt 23 rfl) 1 rfl ?_
        refine M_get_comesIn X (dt tX3_settledAt 24 rfl) ?_
        refine J_iadd X (dt tX3_settledAt 25 rfl) ?_
        exact J_iret X rr (dt tX3_settledAt 26 rfl) (Nat.zero_le _) (Nat.zero_le _) ⟨_, _, rfl, rfl, scr_s (scr_s hτ _ _) _ _, Or.inr ⟨c1, i, j9, b2, hs9, hE, by show τ.1 0 0 + b2 = _; rw [hτ.1]⟩⟩
      | succ d ih =>
        intro i hi τ hτ
        have hv : ∀ k, m_sq τ k = m_sq σ k := fun k => m_sq_v (congrFun hτ.1 0) k
        refine J_aload_n X (dt tX3_settledAt 7 rfl) 0 rfl ?_
        refine J_iload_n X (dt tX3_settledAt 8 rfl) 1 rfl ?_
        refine J_iconst X (nI 1) (dt tX3_settledAt 9 rfl) (by decide) ?_
        refine J_iaddN X (dt tX3_settledAt 10 rfl) ?_
        refine J_callV (rest := []) X (dt tX3_settledAt 11 rfl) (c_goesTo l D hd τ (i + 1) (by omega)) (lw_V q2046 q2048 qs59 q86 q2049) okX3_goesTo rfl mh_m (T := TX3) (N := 15) rfl ⟨Nat.le_of_ble_eq_true rfl, Nat.le_of_ble_eq_true rfl⟩ rfl (Nat.le_of_ble_eq_true rfl) (Nat.zero_le _) (Nat.zero_le _) ?_
        rintro _ _ ⟨a1, b1, rfl, rfl, ha1⟩
        rw [hv, hS (i + 1) (by omega)]
        refine J_if_eq X 28 (dt tX3_settledAt 12 rfl) (by decide) (fun c9 => absurd c9 ((by decide))) (fun _ => ?_)
        refine J_iinc X (lv2 := [(1, .int (nI (i + 1))), (0, .ref m)]) (dt tX3_settledAt 13 rfl) 1 (nI (i + 1)) rfl (nI_add i 1) rfl rfl ?_
        refine J_goto X (tgt := 12) (dt tX3_settledAt 14 rfl) (by decide) ?_
        refine J_sub [1, 0] rfl ?_
        exact ih (i + 1) (by omega) _ (scr_s hτ _ _)
    refine J_iconst X (nI 0) (dt tX3_settledAt 5 rfl) (by decide) ?_
    refine J_istore_n X (lv2 := [(1, .int (nI 0)), (0, .ref m)]) (dt tX3_settledAt 6 rfl) rfl rfl rfl ?_
    refine J_sub [1, 0] rfl ?_
    exact key N 0 (by omega) σ (scr_rf σ)
  · refine J_ldc X (dt tX3_settledAt 3 rfl) q2000 ?_
    exact J_iret X rr (dt tX3_settledAt 4 rfl) (Nat.zero_le _) (Nat.zero_le _) ⟨_, σ, rfl, rfl, scr_rf σ, Or.inl ⟨c1, rfl⟩⟩
abbrev cX3_row : ByteArray := prog_12_method_45_code
def yX3_row : MethodName := ⟨RX3, "row", "(II)I"⟩
theorem tX3_row : dtab cX3_row [(0, .iload_n 1, 1, 1), (1, .ifCond .lt 13, 3, 4), (4, .iload_n 2, 1, 5), (5, .i2l, 1, 6), (6, .lconst 0, 1, 7), (7, .lconst 1, 1, 8), (8, .invokestatic 35, 3, 11), (11, .ifCond .ne 6, 3, 14), (14, .ldc 28, 2, 16), (16, .ireturn, 1, 17), (17, .iload_n 1, 1, 18), (18, .bipush 8, 2, 20), (20, .if_icmp .ge 11, 3, 23), (23, .aload_n 0, 1, 24), (24, .iload_n 1, 1, 25), (25, .invokevirtual 163, 3, 28), (28, .ifCond .ne 6, 3, 31), (31, .ldc 131, 2, 33), (33, .ireturn, 1, 34), (34, .iload_n 2, 1, 35), (35, .ifCond .ne 10, 3, 38), (38, .aload_n 0, 1, 39), (39, .getfield 157, 3, 42), (42, .goto 14, 3, 45), (45, .aload_n 0, 1, 46), (46, .getfield 7, 3, 49), (49, .iconst 0, 1, 50), (50, .iaload, 1, 51), (51, .aload_n 0, 1, 52), (52, .getfield 154, 3, 55), (55, .iadd, 1, 56), (56, .ireturn, 1, 57)] := by unfold dtab; decide +kernel
theorem okX3_row : okY yX3_row 2 := by decide +kernel
set_option maxHeartbeats 4000000 in
theorem c_row (l : Launch) (D : va_G) {h0 : PH} {m : Nat} {ar : Nat → Nat} (hd : md m ar) (σ : MS) (x : Int32) (y : Int32)  : Ct l D yX3_row cX3_row 3 (some .int) (rmM 4 92) [.ref m, .int x, .int y] (mh h0 m ar σ) (PT h0 m ar σ (fun v => v = m_rowV σ x y)) := by
  refine Ct.of (by decide) rfl (fun Γ X rr hmn => ?_)
  have X : Cx l D cX3_row RX3 3 (rmM 4 92) Γ := X
  show J Γ (mh h0 m ar σ) 0 0 0 [(0, .ref m), (1, .int x), (2, .int y)] []
  refine J_iload_n X (dt tX3_row 0 rfl) 1 rfl ?_
  refine J_if_lt X 14 (dt tX3_row 1 rfl) (by decide) (fun c1 => ?_) (fun c1 => ?_)
  · refine J_ldc X (dt tX3_row 8 rfl) q1903 ?_
    exact J_iret X rr (dt tX3_row 9 rfl) (Nat.zero_le _) (Nat.zero_le _) ⟨_, σ, rfl, rfl, scr_rf σ, (by unfold m_rowV; exact (if_pos c1).symm)⟩
  · refine J_iload_n X (dt tX3_row 2 rfl) 2 rfl ?_
    refine J_i2l X (dt tX3_row 3 rfl) ?_
    refine J_lconst X 0 (dt tX3_row 4 rfl) (by decide) ?_
    refine J_lconst X 1 (dt tX3_row 5 rfl) (by decide) ?_
    refine S_callS (rest := []) X (dt tX3_row 6 rfl) (c_in l D _ y.toInt64 0 1 ) (lw_S q1893 q1894 q86 q1895) okX3_in rfl ⟨Nat.le_of_ble_eq_true rfl, Nat.le_of_ble_eq_true rfl⟩ rfl (Nat.le_of_ble_eq_true rfl) (Nat.zero_le _) (Nat.zero_le _) ?_
    refine J_if_ne X 17 (dt tX3_row 7 rfl) (by decide) (fun c2 => ?_) (fun c2 => ?_)
    · refine J_iload_n X (dt tX3_row 10 rfl) 1 rfl ?_
      refine J_bipush X (nI 8) (dt tX3_row 11 rfl) (by decide) ?_
      refine J_icmp_ge X 31 (dt tX3_row 12 rfl) (by decide) (fun c3 => ?_) (fun c3 => ?_)
      · refine J_ldc X (dt tX3_row 17 rfl) q2000 ?_
        exact J_iret X rr (dt tX3_row 18 rfl) (Nat.zero_le _) (Nat.zero_le _) ⟨_, σ, rfl, rfl, scr_rf σ, (by unfold m_rowV; exact ((if_neg c1).trans ((if_neg c2).trans (if_pos c3))).symm)⟩
      · obtain ⟨xi, hxi, rfl⟩ := ix_of (n := 8) (by decide) c1 (Int32.not_le.mp c3)
        have e9 : (nI xi).toNatClampNeg = xi := nI_clamp (by omega)
        refine J_aload_n X (dt tX3_row 13 rfl) 0 rfl ?_
        refine J_iload_n X (dt tX3_row 14 rfl) 1 rfl ?_
        refine J_callV (rest := []) X (dt tX3_row 15 rfl) (c_goesTo l D hd σ xi (by omega)) (lw_V q2046 q2048 qs59 q86 q2049) okX3_goesTo rfl mh_m (T := TX3) (N := 15) rfl ⟨Nat.le_of_ble_eq_true rfl, Nat.le_of_ble_eq_true rfl⟩ rfl (Nat.le_of_ble_eq_true rfl) (Nat.zero_le _) (Nat.zero_le _) ?_
        rintro _ _ ⟨a1, b1, rfl, rfl, ha1⟩
        cases hs : m_sq σ xi with
        | none =>
          refine J_if_ne X 34 (dt tX3_row 16 rfl) (by decide) (fun c9 => absurd (rfl) c9) (fun _ => ?_)
          refine J_ldc X (dt tX3_row 17 rfl) q2000 ?_
          exact J_iret X rr (dt tX3_row 18 rfl) (Nat.zero_le _) (Nat.zero_le _) ⟨_, _, rfl, rfl, scr_s (scr_rf σ) _ _, (by unfold m_rowV; rw [e9, hs]; exact ((if_neg c1).trans ((if_neg c2).trans (if_neg c3))).symm)⟩
        | some q =>
          obtain ⟨j9, f9⟩ := q
          obtain ⟨rfl, rfl⟩ := ha1 j9 f9 hs
          refine J_if_ne X 34 (dt tX3_row 16 rfl) (by decide) (fun _ => ?_) (fun c9 => absurd c9 ((by show ¬ (if true = true then (1 : Int32) else 0) = 0; decide)))
          by_cases hy : y = 0
          · refine J_iload_n X (dt tX3_row 19 rfl) 2 rfl ?_
            refine J_if_ne X 45 (dt tX3_row 20 rfl) (by decide) (fun c9 => absurd (hy) c9) (fun _ => ?_)
            refine J_aload_n X (dt tX3_row 21 rfl) 0 rfl ?_
            refine M_get_comesLane X (dt tX3_row 22 rfl) ?_
            refine J_goto X (tgt := 56) (dt tX3_row 23 rfl) (by decide) ?_
            exact J_iret X rr (dt tX3_row 31 rfl) (Nat.zero_le _) (Nat.zero_le _) ⟨_, _, rfl, rfl, scr_s (scr_rf σ) _ _, (by unfold m_rowV; rw [e9, hs]; exact ((if_neg c1).trans ((if_neg c2).trans ((if_neg c3).trans (if_pos hy)))).symm)⟩
          · refine J_iload_n X (dt tX3_row 19 rfl) 2 rfl ?_
            refine J_if_ne X 45 (dt tX3_row 20 rfl) (by decide) (fun _ => ?_) (fun c9 => absurd c9 (hy))
            refine J_aload_n X (dt tX3_row 24 rfl) 0 rfl ?_
            refine M_get_all X (dt tX3_row 25 rfl) ?_
            refine J_iconst X (nI 0) (dt tX3_row 26 rfl) (by decide) ?_
            refine M_ald_all X hd (dt tX3_row 27 rfl) (by decide) ?_
            refine J_aload_n X (dt tX3_row 28 rfl) 0 rfl ?_
            refine M_get_comesIn X (dt tX3_row 29 rfl) ?_
            refine J_iadd X (dt tX3_row 30 rfl) ?_
            exact J_iret X rr (dt tX3_row 31 rfl) (Nat.zero_le _) (Nat.zero_le _) ⟨_, _, rfl, rfl, scr_s (scr_rf σ) _ _, (by unfold m_rowV; rw [e9, hs]; exact ((if_neg c1).trans ((if_neg c2).trans ((if_neg c3).trans (if_neg hy)))).symm)⟩
    · refine J_ldc X (dt tX3_row 8 rfl) q1903 ?_
      exact J_iret X rr (dt tX3_row 9 rfl) (Nat.zero_le _) (Nat.zero_le _) ⟨_, σ, rfl, rfl, scr_rf σ, (by unfold m_rowV; exact ((if_neg c1).trans (if_pos c2)).symm)⟩
