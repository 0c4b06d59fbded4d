/-! printed by gen/modelm.py -/
set_option maxRecDepth 100000
theorem q2115 : (Jvm.Cond.constantLong "LeadRacesModel" (184 : Nat) (48 : Int64)) ∈ lw_all := lw_g (lw_at lw_m9 127 rfl) rfl
theorem q2116 : (Jvm.Cond.constantLong "LeadRacesModel" (186 : Nat) (57 : Int64)) ∈ lw_all := lw_g (lw_at lw_m9 128 rfl) rfl
/-! the reference reads a number -/
def dgs (tx : Nat → Int32) (tl : Nat) : Nat → Nat → Int32 → Nat × Int32
  | 0, p, v => (p, v)
  | n + 1, p, v => if p < tl then (if m_in (tx p).toInt64 48 57 = 0 then (p, v) else dgs tx tl n (p + 1) (nI 10 * v + tx p - nI 48)) else (p, v)
theorem dgs_le (tx : Nat → Int32) (tl : Nat) : ∀ n p v, p ≤ (dgs tx tl n p v).1 ∧ (dgs tx tl n p v).1 ≤ p + n
  | 0, p, v => ⟨Nat.le_refl p, Nat.le_refl p⟩
  | n + 1, p, v => by
    rw [dgs]
    split
    · split
      · exact ⟨Nat.le_refl p, Nat.le_add_right _ _⟩
      · have := dgs_le tx tl n (p + 1) (nI 10 * v + tx p - nI 48)
        exact ⟨by omega, by omega⟩
    · exact ⟨Nat.le_refl p, Nat.le_add_right _ _⟩
/-- a blank, perhaps a minus, one to four figures: whether it is so, where the reading stands, the number -/
def nmb (tx : Nat → Int32) (tl p : Nat) : Int32 × Nat × Option Int32 := if p < tl ∧ tx p = nI 32 then (if p + 1 < tl ∧ tx (p + 1) = nI 45 then (if nI (dgs tx tl 4 (p + 1 + 1) (nI 0)).1 ≤ nI (p + 1 + 1) then 0 else 1, (dgs tx tl 4 (p + 1 + 1) (nI 0)).1, some (-(dgs tx tl 4 (p + 1 + 1) (nI 0)).2)) else (if nI (dgs tx tl 4 (p + 1) (nI 0)).1 ≤ nI (p + 1) then 0 else 1, (dgs tx tl 4 (p + 1) (nI 0)).1, some (dgs tx tl 4 (p + 1) (nI 0)).2)) else (0, p, none)
theorem nmb_le (tx : Nat → Int32) (tl p : Nat) : p ≤ (nmb tx tl p).2.1 ∧ (nmb tx tl p).2.1 ≤ p + 6 := by
  unfold nmb
  split
  · split
    · have := dgs_le tx tl 4 (p + 1 + 1) (nI 0)
      exact ⟨by dsimp only; omega, by dsimp only; omega⟩
    · have := dgs_le tx tl 4 (p + 1) (nI 0)
      exact ⟨by dsimp only; omega, by dsimp only; omega⟩
  · exact ⟨Nat.le_refl p, Nat.le_add_right _ _⟩
theorem nmb_B (tx : Nat → Int32) (tl p : Nat) : isB (nmb tx tl p).1 := by
  unfold nmb
  split
  · split
    · exact isB_ite isB_0 isB_1
    · exact isB_ite isB_0 isB_1
  · exact isB_0
def putN (f : Nat → Int32) (k : Nat) (o : Option Int32) : Nat → Int32 := match o with
  | none => f
  | some v => upd f k v
/-- the state with the numbers f and the reading at p -/
def stN (σ : MS) (f : Nat → Int32) (p : Nat) : MS := sV (sA σ 5 f) 5 (nI p)
theorem stN_id (σ : MS) (p : Nat) : sV σ 5 (nI p) = stN σ (σ.1 5) p := by unfold stN; rw [sA_id]
theorem pn_of {h0 : PH} {m : Nat} {ar : Nat → Nat} {σ : MS} {f g : Nat → Int32} {k p : Nat} {r : Int32 × Nat × Option Int32} {v : Int32} {o : Option Int32} (e : r = (v, p, o)) (hg : g = putN f k o) : PM h0 m ar (some (.int r.1)) (stN σ (putN f k r.2.2) r.2.1) (some (.int v)) (mh h0 m ar (stN σ g p)) := by
  subst e hg
  exact ⟨rfl, rfl⟩
abbrev cX3_takesNumber : ByteArray := prog_12_method_53_code
def yX3_takesNumber : MethodName := ⟨RX3, "takesNumber", "(I)Z"⟩
theorem tX3_takesNumber : dtab cX3_takesNumber [(0, .aload_n 0, 1, 1), (1, .bipush 32, 2, 3), (3, .invokevirtual 181, 3, 6), (6, .ifCond .ne 5, 3, 9), (9, .iconst 0, 1, 10), (10, .ireturn, 1, 11), (11, .aload_n 0, 1, 12), (12, .bipush 45, 2, 14), (14, .invokevirtual 181, 3, 17), (17, .istore_n 2, 1, 18), (18, .aload_n 0, 1, 19), (19, .getfield 176, 3, 22), (22, .istore_n 3, 1, 23), (23, .iconst 0, 1, 24), (24, .istore 4, 2, 26), (26, .aload_n 0, 1, 27), (27, .getfield 176, 3, 30), (30, .aload_n 0, 1, 31), (31, .getfield 143, 3, 34), (34, .if_icmp .ge 68, 3, 37), (37, .aload_n 0, 1, 38), (38, .getfield 176, 3, 41), (41, .iload_n 3, 1, 42), (42, .iconst 4, 1, 43), (43, .iadd, 1, 44), (44, .if_icmp .ge 58, 3, 47), (47, .aload_n 0, 1, 48), (48, .getfield 22, 3, 51), (51, .aload_n 0, 1, 52), (52, .getfield 176, 3, 55), (55, .iaload, 1, 56), (56, .i2l, 1, 57), (57, .ldc2_w 184, 3, 60), (60, .ldc2_w 186, 3, 63), (63, .invokestatic 35, 3, 66), (66, .ifCond .eq 36, 3, 69), (69, .bipush 10, 2, 71), (71, .iload 4, 2, 73), (73, .imul, 1, 74), (74, .aload_n 0, 1, 75), (75, .getfield 22, 3, 78), (78, .aload_n 0, 1, 79), (79, .getfield 176, 3, 82), (82, .iaload, 1, 83), (83, .iadd, 1, 84), (84, .bipush 48, 2, 86), (86, .isub, 1, 87), (87, .istore 4, 2, 89), (89, .aload_n 0, 1, 90), (90, .dup, 1, 91), (91, .getfield 176, 3, 94), (94, .iconst 1, 1, 95), (95, .iadd, 1, 96), (96, .putfield 176, 3, 99), (99, .goto (-73), 3, 102), (102, .aload_n 0, 1, 103), (103, .getfield 25, 3, 106), (106, .iload_n 1, 1, 107), (107, .iload_n 2, 1, 108), (108, .ifCond .eq 9, 3, 111), (111, .iload 4, 2, 113), (113, .ineg, 1, 114), (114, .goto 5, 3, 117), (117, .iload 4, 2, 119), (119, .iastore, 1, 120), (120, .aload_n 0, 1, 121), (121, .getfield 176, 3, 124), (124, .iload_n 3, 1, 125), (125, .if_icmp .le 7, 3, 128), (128, .iconst 1, 1, 129), (129, .goto 4, 3, 132), (132, .iconst 0, 1, 133), (133, .ireturn, 1, 134)] := by unfold dtab; decide +kernel
theorem okX3_takesNumber : okY yX3_takesNumber 1 := by decide +kernel
set_option maxHeartbeats 4000000 in
theorem c_takesNumber (l : Launch) (D : va_G) {h0 : PH} {m : Nat} {ar : Nat → Nat} (hd : md m ar) (σ : MS) (k : Nat) (f : Nat → Int32) (tl p : Nat) (htl : σ.2 3 = nI tl) (tl60 : tl ≤ 60) (hp9 : p ≤ 90) (hk : k < 3) : Ct l D yX3_takesNumber cX3_takesNumber 5 (some .boolean) (rmM 1 25) [.ref m, .int (nI k)] (mh h0 m ar (sV (sA σ 5 f) 5 (nI p))) (PM h0 m ar (some (.int ((nmb (σ.1 4) tl p).1))) (stN σ (putN f k (nmb (σ.1 4) tl p).2.2) (nmb (σ.1 4) tl p).2.1)) := by
  refine Ct.of (by decide) rfl (fun Γ X rr hmn => ?_)
  have X : Cx l D cX3_takesNumber RX3 5 (rmM 1 25) Γ := X
  show J Γ (mh h0 m ar (sV (sA σ 5 f) 5 (nI p))) 0 0 0 [(0, .ref m), (1, .int (nI k))] []
  refine J_aload_n X (dt tX3_takesNumber 0 rfl) 0 rfl ?_
  refine J_bipush X (nI 32) (dt tX3_takesNumber 1 rfl) (by decide) ?_
  by_cases hs : p < tl ∧ σ.1 4 p = nI 32
  · refine M_callV (rest := []) X (dt tX3_takesNumber 2 rfl) (c_takesY l D hd (sA σ 5 f) (nI 32) tl p htl tl60 (by omega) hs) (lw_V q2100 q2102 qs64 q86 q2103) okX3_takes rfl rfl ⟨Nat.le_of_ble_eq_true rfl, Nat.le_of_ble_eq_true rfl⟩ rfl (Nat.le_of_ble_eq_true rfl) (Nat.zero_le _) (Nat.zero_le _) ?_
    refine J_if_ne X 11 (dt tX3_takesNumber 3 rfl) (by decide) (fun _ => ?_) (fun c9 => absurd c9 ((by decide)))
    refine J_aload_n X (dt tX3_takesNumber 6 rfl) 0 rfl ?_
    refine J_bipush X (nI 45) (dt tX3_takesNumber 7 rfl) (by decide) ?_
    by_cases hm : p + 1 < tl ∧ σ.1 4 (p + 1) = nI 45
    · refine M_callV (rest := []) X (dt tX3_takesNumber 8 rfl) (c_takesY l D hd (sA σ 5 f) (nI 45) tl (p + 1) htl tl60 (by omega) hm) (lw_V q2100 q2102 qs64 q86 q2103) okX3_takes rfl rfl ⟨Nat.le_of_ble_eq_true rfl, Nat.le_of_ble_eq_true rfl⟩ rfl (Nat.le_of_ble_eq_true rfl) (Nat.zero_le _) (Nat.zero_le _) ?_
      refine J_istore_n X (lv2 := [(2, .int (nI 1)), (0, .ref m), (1, .int (nI k))]) (dt tX3_takesNumber 9 rfl) rfl rfl rfl ?_
      refine J_aload_n X (dt tX3_takesNumber 10 rfl) 1 rfl ?_
      refine M_get_at X (dt tX3_takesNumber 11 rfl) ?_
      refine J_istore_n X (lv2 := [(3, .int (nI (p + 1 + 1))), (2, .int (nI 1)), (0, .ref m), (1, .int (nI k))]) (dt tX3_takesNumber 12 rfl) rfl rfl rfl ?_
      refine J_iconst X (nI 0) (dt tX3_takesNumber 13 rfl) (by decide) ?_
      refine J_istore X (lv2 := [(4, .int (nI 0)), (3, .int (nI (p + 1 + 1))), (2, .int (nI 1)), (0, .ref m), (1, .int (nI k))]) (dt tX3_takesNumber 14 rfl) rfl rfl ?_
      have ex : ∀ (q : Nat) (v : Int32), dgs (σ.1 4) tl 4 (p + 1 + 1) (nI 0) = (q, v) → q ≤ 100 → J Γ (mh h0 m ar (sV (sA σ 5 f) 5 (nI q))) 0 0 102 [(0, .ref m), (1, .int (nI k)), (2, .int (nI 1)), (3, .int (nI (p + 1 + 1))), (4, .int v)] [] := by
        intro q v hqv hq
        refine J_aload_n X (dt tX3_takesNumber 55 rfl) 0 rfl ?_
        refine M_get_number X (dt tX3_takesNumber 56 rfl) ?_
        refine J_iload_n X (dt tX3_takesNumber 57 rfl) 1 rfl ?_
        refine J_iload_n X (dt tX3_takesNumber 58 rfl) 2 rfl ?_
        refine J_if_eq X 117 (dt tX3_takesNumber 59 rfl) (by decide) (fun c9 => absurd c9 ((by decide))) (fun _ => ?_)
        refine J_iload X (dt tX3_takesNumber 60 rfl) 4 rfl ?_
        refine J_ineg X (dt tX3_takesNumber 61 rfl) ?_
        refine J_goto X (tgt := 119) (dt tX3_takesNumber 62 rfl) (by decide) ?_
        refine M_ast_number X hd (dt tX3_takesNumber 64 rfl) (by omega) ?_
        refine J_heap (h2 := mh h0 m ar (sV (sA σ 5 (upd f k (-v))) 5 (nI q))) (congrArg (mh h0 m ar) (congrArg (fun z => sV z 5 (nI q)) (sA_sA _ _ _ _))) ?_
        refine J_aload_n X (dt tX3_takesNumber 65 rfl) 0 rfl ?_
        refine M_get_at X (dt tX3_takesNumber 66 rfl) ?_
        refine J_iload_n X (dt tX3_takesNumber 67 rfl) 3 rfl ?_
        have kj3 : ∀ v2 : Int32, v2 = (if (nI q) ≤ (nI (p + 1 + 1)) then nI 0 else nI 1) → J Γ (mh h0 m ar (sV (sA σ 5 (upd f k (-v))) 5 (nI q))) 0 0 133 [(0, .ref m), (1, .int (nI k)), (2, .int (nI 1)), (3, .int (nI (p + 1 + 1))), (4, .int v)] [.int v2] := by
          intro v2 ev2
          exact J_zret X rr (dt tX3_takesNumber 72 rfl) (Nat.zero_le _) (Nat.zero_le _) (isB.nar (by subst_vars; exact isB_ite isB_0 isB_1)) (by subst_vars; exact pn_of (o := some (-v)) (by unfold nmb; rw [if_pos hs, if_pos hm, hqv]; rfl) rfl)
        refine J_icmp_le X 132 (dt tX3_takesNumber 68 rfl) (by decide) (fun c1 => ?_) (fun c1 => ?_)
        · refine J_iconst X (nI 0) (dt tX3_takesNumber 71 rfl) (by decide) ?_
          exact kj3 _ (if_pos c1).symm
        · refine J_iconst X (nI 1) (dt tX3_takesNumber 69 rfl) (by decide) ?_
          refine J_goto X (tgt := 133) (dt tX3_takesNumber 70 rfl) (by decide) ?_
          exact kj3 _ (if_neg c1).symm
      have key : ∀ (n q : Nat) (v : Int32), q + n = (p + 1 + 1) + 4 → dgs (σ.1 4) tl n q v = dgs (σ.1 4) tl 4 (p + 1 + 1) (nI 0) → J Γ (mh h0 m ar (sV (sA σ 5 f) 5 (nI q))) 0 0 26 [(0, .ref m), (1, .int (nI k)), (2, .int (nI 1)), (3, .int (nI (p + 1 + 1))), (4, .int v)] [] := by
        intro n
        induction n with
        | zero =>
          intro q v hq hw
          by_cases h1 : q < tl
          · refine J_aload_n X (dt tX3_takesNumber 15 rfl) 0 rfl ?_
            refine M_get_at X (dt tX3_takesNumber 16 rfl) ?_
            refine J_aload_n X (dt tX3_takesNumber 17 rfl) 0 rfl ?_
            refine M_get_textLong X (dt tX3_takesNumber 18 rfl) ?_
            refine J_topi htl ?_
            refine J_icmp_ge X 102 (dt tX3_takesNumber 19 rfl) (by decide) (fun c9 => absurd c9 (nI_ge h1 (by omega))) (fun _ => ?_)
            refine J_aload_n X (dt tX3_takesNumber 20 rfl) 0 rfl ?_
            refine M_get_at X (dt tX3_takesNumber 21 rfl) ?_
            refine J_iload_n X (dt tX3_takesNumber 22 rfl) 3 rfl ?_
            refine J_iconst X (nI 4) (dt tX3_takesNumber 23 rfl) (by decide) ?_
            refine J_iaddN X (dt tX3_takesNumber 24 rfl) ?_
            refine J_icmp_ge X 102 (dt tX3_takesNumber 25 rfl) (by decide) (fun _ => ?_) (fun c9 => absurd (nI_le (by omega) (by omega)) c9)
            refine J_sub [0, 1, 2, 3, 4] rfl ?_
            exact ex q v (hw.symm) (by omega)
          · refine J_aload_n X (dt tX3_takesNumber 15 rfl) 0 rfl ?_
            refine M_get_at X (dt tX3_takesNumber 16 rfl) ?_
            refine J_aload_n X (dt tX3_takesNumber 17 rfl) 0 rfl ?_
            refine M_get_textLong X (dt tX3_takesNumber 18 rfl) ?_
            refine J_topi htl ?_
            refine J_icmp_ge X 102 (dt tX3_takesNumber 19 rfl) (by decide) (fun _ => ?_) (fun c9 => absurd (nI_le (by omega) (by omega)) c9)
            refine J_sub [0, 1, 2, 3, 4] rfl ?_
            exact ex q v (hw.symm) (by omega)
        | succ n ih =>
          intro q v hq hw
          by_cases h1 : q < tl
          · refine J_aload_n X (dt tX3_takesNumber 15 rfl) 0 rfl ?_
            refine M_get_at X (dt tX3_takesNumber 16 rfl) ?_
            refine J_aload_n X (dt tX3_takesNumber 17 rfl) 0 rfl ?_
            refine M_get_textLong X (dt tX3_takesNumber 18 rfl) ?_
            refine J_topi htl ?_
            refine J_icmp_ge X 102 (dt tX3_takesNumber 19 rfl) (by decide) (fun c9 => absurd c9 (nI_ge h1 (by omega))) (fun _ => ?_)
            refine J_aload_n X (dt tX3_takesNumber 20 rfl) 0 rfl ?_
            refine M_get_at X (dt tX3_takesNumber 21 rfl) ?_
            refine J_iload_n X (dt tX3_takesNumber 22 rfl) 3 rfl ?_
            refine J_iconst X (nI 4) (dt tX3_takesNumber 23 rfl) (by decide) ?_
            refine J_iaddN X (dt tX3_takesNumber 24 rfl) ?_
            refine J_icmp_ge X 102 (dt tX3_takesNumber 25 rfl) (by decide) (fun c9 => absurd c9 (nI_ge (by omega) (by omega))) (fun _ => ?_)
            refine J_aload_n X (dt tX3_takesNumber 26 rfl) 0 rfl ?_
            refine M_get_text X (dt tX3_takesNumber 27 rfl) ?_
            refine J_aload_n X (dt tX3_takesNumber 28 rfl) 0 rfl ?_
            refine M_get_at X (dt tX3_takesNumber 29 rfl) ?_
            refine M_ald_text X hd (dt tX3_takesNumber 30 rfl) (by omega) ?_
            refine J_i2l X (dt tX3_takesNumber 31 rfl) ?_
            refine J_ldc2 X (dt tX3_takesNumber 32 rfl) q2115 ?_
            refine J_ldc2 X (dt tX3_takesNumber 33 rfl) q2116 ?_
            refine S_callS (rest := []) X (dt tX3_takesNumber 34 rfl) (c_in l D _ ((σ.1 4 q).toInt64) (48) (57) ) (lw_S q1893 q1894 q86 q1895) okX3_in rfl ⟨Nat.le_of_ble_eq_true rfl, Nat.le_of_ble_eq_true rfl⟩ rfl (Nat.le_of_ble_eq_true rfl) (Nat.zero_le _) (Nat.zero_le _) ?_
            by_cases h2 : m_in (σ.1 4 q).toInt64 48 57 = 0
            · refine J_if_eq X 102 (dt tX3_takesNumber 35 rfl) (by decide) (fun _ => ?_) (fun c9 => absurd (h2) c9)
              refine J_sub [0, 1, 2, 3, 4] rfl ?_
              exact ex q v (hw.symm.trans (by rw [dgs, if_pos h1, if_pos h2])) (by omega)
            · refine J_if_eq X 102 (dt tX3_takesNumber 35 rfl) (by decide) (fun c9 => absurd c9 (h2)) (fun _ => ?_)
              refine J_bipush X (nI 10) (dt tX3_takesNumber 36 rfl) (by decide) ?_
              refine J_iload X (dt tX3_takesNumber 37 rfl) 4 rfl ?_
              refine J_imul X (dt tX3_takesNumber 38 rfl) ?_
              refine J_aload_n X (dt tX3_takesNumber 39 rfl) 0 rfl ?_
              refine M_get_text X (dt tX3_takesNumber 40 rfl) ?_
              refine J_aload_n X (dt tX3_takesNumber 41 rfl) 0 rfl ?_
              refine M_get_at X (dt tX3_takesNumber 42 rfl) ?_
              refine M_ald_text X hd (dt tX3_takesNumber 43 rfl) (by omega) ?_
              refine J_iadd X (dt tX3_takesNumber 44 rfl) ?_
              refine J_bipush X (nI 48) (dt tX3_takesNumber 45 rfl) (by decide) ?_
              refine J_isub X (dt tX3_takesNumber 46 rfl) ?_
              refine J_istore X (lv2 := [(4, .int ((((nI 10) * v) + (σ.1 4 q)) - (nI 48))), (0, .ref m), (1, .int (nI k)), (2, .int (nI 1)), (3, .int (nI (p + 1 + 1)))]) (dt tX3_takesNumber 47 rfl) rfl rfl ?_
              refine J_aload_n X (dt tX3_takesNumber 48 rfl) 1 rfl ?_
              refine J_dup X (dt tX3_takesNumber 49 rfl) rfl ?_
              refine M_get_at X (dt tX3_takesNumber 50 rfl) ?_
              refine J_iconst X (nI 1) (dt tX3_takesNumber 51 rfl) (by decide) ?_
              refine J_iaddN X (dt tX3_takesNumber 52 rfl) ?_
              refine M_put_at X (dt tX3_takesNumber 53 rfl) ?_
              refine J_heap (h2 := mh h0 m ar (sV (sA σ 5 f) 5 (nI (q + 1)))) (congrArg (mh h0 m ar) (sV_sV _ _ _ _)) ?_
              refine J_goto X (tgt := 26) (dt tX3_takesNumber 54 rfl) (by decide) ?_
              refine J_sub [1, 2, 3, 4, 0] rfl ?_
              exact ih (q + 1) _ (by omega) (by rw [dgs, if_pos h1, if_neg h2] at hw; exact hw)
          · refine J_aload_n X (dt tX3_takesNumber 15 rfl) 0 rfl ?_
            refine M_get_at X (dt tX3_takesNumber 16 rfl) ?_
            refine J_aload_n X (dt tX3_takesNumber 17 rfl) 0 rfl ?_
            refine M_get_textLong X (dt tX3_takesNumber 18 rfl) ?_
            refine J_topi htl ?_
            refine J_icmp_ge X 102 (dt tX3_takesNumber 19 rfl) (by decide) (fun _ => ?_) (fun c9 => absurd (nI_le (by omega) (by omega)) c9)
            refine J_sub [0, 1, 2, 3, 4] rfl ?_
            exact ex q v (hw.symm.trans (by rw [dgs, if_neg h1])) (by omega)
      refine J_sub [3, 4, 2, 1, 0] rfl ?_
      exact key 4 (p + 1 + 1) (nI 0) rfl rfl
    · refine M_callV (rest := []) X (dt tX3_takesNumber 8 rfl) (c_takesN l D hd (sA σ 5 f) (nI 45) tl (p + 1) htl tl60 (by omega) hm) (lw_V q2100 q2102 qs64 q86 q2103) okX3_takes rfl rfl ⟨Nat.le_of_ble_eq_true rfl, Nat.le_of_ble_eq_true rfl⟩ rfl (Nat.le_of_ble_eq_true rfl) (Nat.zero_le _) (Nat.zero_le _) ?_
      refine J_istore_n X (lv2 := [(2, .int (nI 0)), (0, .ref m), (1, .int (nI k))]) (dt tX3_takesNumber 9 rfl) rfl rfl rfl ?_
      refine J_aload_n X (dt tX3_takesNumber 10 rfl) 1 rfl ?_
      refine M_get_at X (dt tX3_takesNumber 11 rfl) ?_
      refine J_istore_n X (lv2 := [(3, .int (nI (p + 1))), (2, .int (nI 0)), (0, .ref m), (1, .int (nI k))]) (dt tX3_takesNumber 12 rfl) rfl rfl rfl ?_
      refine J_iconst X (nI 0) (dt tX3_takesNumber 13 rfl) (by decide) ?_
      refine J_istore X (lv2 := [(4, .int (nI 0)), (3, .int (nI (p + 1))), (2, .int (nI 0)), (0, .ref m), (1, .int (nI k))]) (dt tX3_takesNumber 14 rfl) rfl rfl ?_
      have ex : ∀ (q : Nat) (v : Int32), dgs (σ.1 4) tl 4 (p + 1) (nI 0) = (q, v) → q ≤ 100 → J Γ (mh h0 m ar (sV (sA σ 5 f) 5 (nI q))) 0 0 102 [(0, .ref m), (1, .int (nI k)), (2, .int (nI 0)), (3, .int (nI (p + 1))), (4, .int v)] [] := by
        intro q v hqv hq
        refine J_aload_n X (dt tX3_takesNumber 55 rfl) 0 rfl ?_
        refine M_get_number X (dt tX3_takesNumber 56 rfl) ?_
        refine J_iload_n X (dt tX3_takesNumber 57 rfl) 1 rfl ?_
        refine J_iload_n X (dt tX3_takesNumber 58 rfl) 2 rfl ?_
        refine J_if_eq X 117 (dt tX3_takesNumber 59 rfl) (by decide) (fun _ => ?_) (fun c9 => absurd (rfl) c9)
        refine J_iload X (dt tX3_takesNumber 63 rfl) 4 rfl ?_
        refine M_ast_number X hd (dt tX3_takesNumber 64 rfl) (by omega) ?_
        refine J_heap (h2 := mh h0 m ar (sV (sA σ 5 (upd f k v)) 5 (nI q))) (congrArg (mh h0 m ar) (congrArg (fun z => sV z 5 (nI q)) (sA_sA _ _ _ _))) ?_
        refine J_aload_n X (dt tX3_takesNumber 65 rfl) 0 rfl ?_
        refine M_get_at X (dt tX3_takesNumber 66 rfl) ?_
        refine J_iload_n X (dt tX3_takesNumber 67 rfl) 3 rfl ?_
        have kj6 : ∀ v5 : Int32, v5 = (if (nI q) ≤ (nI (p + 1)) then nI 0 else nI 1) → J Γ (mh h0 m ar (sV (sA σ 5 (upd f k v)) 5 (nI q))) 0 0 133 [(0, .ref m), (1, .int (nI k)), (2, .int (nI 0)), (3, .int (nI (p + 1))), (4, .int v)] [.int v5] := by
          intro v5 ev5
          exact J_zret X rr (dt tX3_takesNumber 72 rfl) (Nat.zero_le _) (Nat.zero_le _) (isB.nar (by subst_vars; exact isB_ite isB_0 isB_1)) (by subst_vars; exact pn_of (o := some v) (by unfold nmb; rw [if_pos hs, if_neg hm, hqv]; rfl) rfl)
        refine J_icmp_le X 132 (dt tX3_takesNumber 68 rfl) (by decide) (fun c4 => ?_) (fun c4 => ?_)
        · refine J_iconst X (nI 0) (dt tX3_takesNumber 71 rfl) (by decide) ?_
          exact kj6 _ (if_pos c4).symm
        · refine J_iconst X (nI 1) (dt tX3_takesNumber 69 rfl) (by decide) ?_
          refine J_goto X (tgt := 133) (dt tX3_takesNumber 70 rfl) (by decide) ?_
          exact kj6 _ (if_neg c4).symm
      have key : ∀ (n q : Nat) (v : Int32), q + n = (p + 1) + 4 → dgs (σ.1 4) tl n q v = dgs (σ.1 4) tl 4 (p + 1) (nI 0) → J Γ (mh h0 m ar (sV (sA σ 5 f) 5 (nI q))) 0 0 26 [(0, .ref m), (1, .int (nI k)), (2, .int (nI 0)), (3, .int (nI (p + 1))), (4, .int v)] [] := by
        intro n
        induction n with
        | zero =>
          intro q v hq hw
          by_cases h1 : q < tl
          · refine J_aload_n X (dt tX3_takesNumber 15 rfl) 0 rfl ?_
            refine M_get_at X (dt tX3_takesNumber 16 rfl) ?_
            refine J_aload_n X (dt tX3_takesNumber 17 rfl) 0 rfl ?_
            refine M_get_textLong X (dt tX3_takesNumber 18 rfl) ?_
            refine J_topi htl ?_
            refine J_icmp_ge X 102 (dt tX3_takesNumber 19 rfl) (by decide) (fun c9 => absurd c9 (nI_ge h1 (by omega))) (fun _ => ?_)
            refine J_aload_n X (dt tX3_takesNumber 20 rfl) 0 rfl ?_
            refine M_get_at X (dt tX3_takesNumber 21 rfl) ?_
            refine J_iload_n X (dt tX3_takesNumber 22 rfl) 3 rfl ?_
            refine J_iconst X (nI 4) (dt tX3_takesNumber 23 rfl) (by decide) ?_
            refine J_iaddN X (dt tX3_takesNumber 24 rfl) ?_
            refine J_icmp_ge X 102 (dt tX3_takesNumber 25 rfl) (by decide) (fun _ => ?_) (fun c9 => absurd (nI_le (by omega) (by omega)) c9)
            refine J_sub [0, 1, 2, 3, 4] rfl ?_
            exact ex q v (hw.symm) (by omega)
          · refine J_aload_n X (dt tX3_takesNumber 15 rfl) 0 rfl ?_
            refine M_get_at X (dt tX3_takesNumber 16 rfl) ?_
            refine J_aload_n X (dt tX3_takesNumber 17 rfl) 0 rfl ?_
            refine M_get_textLong X (dt tX3_takesNumber 18 rfl) ?_
            refine J_topi htl ?_
            refine J_icmp_ge X 102 (dt tX3_takesNumber 19 rfl) (by decide) (fun _ => ?_) (fun c9 => absurd (nI_le (by omega) (by omega)) c9)
            refine J_sub [0, 1, 2, 3, 4] rfl ?_
            exact ex q v (hw.symm) (by omega)
        | succ n ih =>
          intro q v hq hw
          by_cases h1 : q < tl
          · refine J_aload_n X (dt tX3_takesNumber 15 rfl) 0 rfl ?_
            refine M_get_at X (dt tX3_takesNumber 16 rfl) ?_
            refine J_aload_n X (dt tX3_takesNumber 17 rfl) 0 rfl ?_
            refine M_get_textLong X (dt tX3_takesNumber 18 rfl) ?_
            refine J_topi htl ?_
            refine J_icmp_ge X 102 (dt tX3_takesNumber 19 rfl) (by decide) (fun c9 => absurd c9 (nI_ge h1 (by omega))) (fun _ => ?_)
            refine J_aload_n X (dt tX3_takesNumber 20 rfl) 0 rfl ?_
            refine M_get_at X (dt tX3_takesNumber 21 rfl) ?_
            refine J_iload_n X (dt tX3_takesNumber 22 rfl) 3 rfl ?_
            refine J_iconst X (nI 4) (dt tX3_takesNumber 23 rfl) (by decide) ?_
            refine J_iaddN X (dt tX3_takesNumber 24 rfl) ?_
            refine J_icmp_ge X 102 (dt tX3_takesNumber 25 rfl) (by decide) (fun c9 => absurd c9 (nI_ge (by omega) (by omega))) (fun _ => ?_)
            refine J_aload_n X (dt tX3_takesNumber 26 rfl) 0 rfl ?_
            refine M_get_text X (dt tX3_takesNumber 27 rfl) ?_
            refine J_aload_n X (dt tX3_takesNumber 28 rfl) 0 rfl ?_
            refine M_get_at X (dt tX3_takesNumber 29 rfl) ?_
            refine M_ald_text X hd (dt tX3_takesNumber 30 rfl) (by omega) ?_
            refine J_i2l X (dt tX3_takesNumber 31 rfl) ?_
            refine J_ldc2 X (dt tX3_takesNumber 32 rfl) q2115 ?_
            refine J_ldc2 X (dt tX3_takesNumber 33 rfl) q2116 ?_
            refine S_callS (rest := []) X (dt tX3_takesNumber 34 rfl) (c_in l D _ ((σ.1 4 q).toInt64) (48) (57) ) (lw_S q1893 q1894 q86 q1895) okX3_in rfl ⟨Nat.le_of_ble_eq_true rfl, Nat.le_of_ble_eq_true rfl⟩ rfl (Nat.le_of_ble_eq_true rfl) (Nat.zero_le _) (Nat.zero_le _) ?_
            by_cases h2 : m_in (σ.1 4 q).toInt64 48 57 = 0
            · refine J_if_eq X 102 (dt tX3_takesNumber 35 rfl) (by decide) (fun _ => ?_) (fun c9 => absurd (h2) c9)
              refine J_sub [0, 1, 2, 3, 4] rfl ?_
              exact ex q v (hw.symm.trans (by rw [dgs, if_pos h1, if_pos h2])) (by omega)
            · refine J_if_eq X 102 (dt tX3_takesNumber 35 rfl) (by decide) (fun c9 => absurd c9 (h2)) (fun _ => ?_)
              refine J_bipush X (nI 10) (dt tX3_takesNumber 36 rfl) (by decide) ?_
              refine J_iload X (dt tX3_takesNumber 37 rfl) 4 rfl ?_
              refine J_imul X (dt tX3_takesNumber 38 rfl) ?_
              refine J_aload_n X (dt tX3_takesNumber 39 rfl) 0 rfl ?_
              refine M_get_text X (dt tX3_takesNumber 40 rfl) ?_
              refine J_aload_n X (dt tX3_takesNumber 41 rfl) 0 rfl ?_
              refine M_get_at X (dt tX3_takesNumber 42 rfl) ?_
              refine M_ald_text X hd (dt tX3_takesNumber 43 rfl) (by omega) ?_
              refine J_iadd X (dt tX3_takesNumber 44 rfl) ?_
              refine J_bipush X (nI 48) (dt tX3_takesNumber 45 rfl) (by decide) ?_
              refine J_isub X (dt tX3_takesNumber 46 rfl) ?_
              refine J_istore X (lv2 := [(4, .int ((((nI 10) * v) + (σ.1 4 q)) - (nI 48))), (0, .ref m), (1, .int (nI k)), (2, .int (nI 0)), (3, .int (nI (p + 1)))]) (dt tX3_takesNumber 47 rfl) rfl rfl ?_
              refine J_aload_n X (dt tX3_takesNumber 48 rfl) 1 rfl ?_
              refine J_dup X (dt tX3_takesNumber 49 rfl) rfl ?_
              refine M_get_at X (dt tX3_takesNumber 50 rfl) ?_
              refine J_iconst X (nI 1) (dt tX3_takesNumber 51 rfl) (by decide) ?_
              refine J_iaddN X (dt tX3_takesNumber 52 rfl) ?_
              refine M_put_at X (dt tX3_takesNumber 53 rfl) ?_
              refine J_heap (h2 := mh h0 m ar (sV (sA σ 5 f) 5 (nI (q + 1)))) (congrArg (mh h0 m ar) (sV_sV _ _ _ _)) ?_
              refine J_goto X (tgt := 26) (dt tX3_takesNumber 54 rfl) (by decide) ?_
              refine J_sub [1, 2, 3, 4, 0] rfl ?_
              exact ih (q + 1) _ (by omega) (by rw [dgs, if_pos h1, if_neg h2] at hw; exact hw)
          · refine J_aload_n X (dt tX3_takesNumber 15 rfl) 0 rfl ?_
            refine M_get_at X (dt tX3_takesNumber 16 rfl) ?_
            refine J_aload_n X (dt tX3_takesNumber 17 rfl) 0 rfl ?_
            refine M_get_textLong X (dt tX3_takesNumber 18 rfl) ?_
            refine J_topi htl ?_
            refine J_icmp_ge X 102 (dt tX3_takesNumber 19 rfl) (by decide) (fun _ => ?_) (fun c9 => absurd (nI_le (by omega) (by omega)) c9)
            refine J_sub [0, 1, 2, 3, 4] rfl ?_
            exact ex q v (hw.symm.trans (by rw [dgs, if_neg h1])) (by omega)
      refine J_sub [3, 4, 2, 1, 0] rfl ?_
      exact key 4 (p + 1) (nI 0) rfl rfl
  · refine M_callV (rest := []) X (dt tX3_takesNumber 2 rfl) (c_takesN l D hd (sA σ 5 f) (nI 32) tl p htl tl60 (by omega) hs) (lw_V q2100 q2102 qs64 q86 q2103) okX3_takes rfl rfl ⟨Nat.le_of_ble_eq_true rfl, Nat.le_of_ble_eq_true rfl⟩ rfl (Nat.le_of_ble_eq_true rfl) (Nat.zero_le _) (Nat.zero_le _) ?_
    refine J_if_ne X 11 (dt tX3_takesNumber 3 rfl) (by decide) (fun c9 => absurd (rfl) c9) (fun _ => ?_)
    refine J_iconst X (nI 0) (dt tX3_takesNumber 4 rfl) (by decide) ?_
    exact J_zret X rr (dt tX3_takesNumber 5 rfl) (Nat.zero_le _) (Nat.zero_le _) (isB.nar isB_0) (pn_of (o := none) (if_neg hs) rfl)
def m_numbersOf (c : Int32) : Int32 := if c = nI 99 then nI 3 else if c = nI 115 then nI 2 else if c = nI 106 then nI 2 else nI 1
abbrev cX3_numbersOf : ByteArray := prog_12_method_54_code
def yX3_numbersOf : MethodName := ⟨RX3, "numbersOf", "(I)I"⟩
theorem tX3_numbersOf : dtab cX3_numbersOf [(0, .iload_n 0, 1, 1), (1, .bipush 99, 2, 3), (3, .if_icmp .ne 7, 3, 6), (6, .iconst 3, 1, 7), (7, .goto 20, 3, 10), (10, .iload_n 0, 1, 11), (11, .bipush 115, 2, 13), (13, .if_icmp .eq 9, 3, 16), (16, .iload_n 0, 1, 17), (17, .bipush 106, 2, 19), (19, .if_icmp .ne 7, 3, 22), (22, .iconst 2, 1, 23), (23, .goto 4, 3, 26), (26, .iconst 1, 1, 27), (27, .ireturn, 1, 28)] := by unfold dtab; decide +kernel
theorem okX3_numbersOf : okY yX3_numbersOf 1 := by decide +kernel
set_option maxHeartbeats 4000000 in
theorem c_numbersOf (l : Launch) (D : va_G) (h : PH) (c : Int32)  : Ct l D yX3_numbersOf cX3_numbersOf 1 (some .int) (rmM 0 0) [.int c] h (PS h (some (.int (m_numbersOf c)))) := by
  refine Ct.of (by decide) rfl (fun Γ X rr hmn => ?_)
  have X : Cx l D cX3_numbersOf RX3 1 (rmM 0 0) Γ := X
  show J Γ h 0 0 0 [(0, .int c)] []
  refine J_iload_n X (dt tX3_numbersOf 0 rfl) 0 rfl ?_
  refine J_bipush X (nI 99) (dt tX3_numbersOf 1 rfl) (by decide) ?_
  have kj5 : ∀ v4 : Int32, v4 = (if c = (nI 99) then nI 3 else if c = (nI 115) then nI 2 else if c = (nI 106) then nI 2 else nI 1) → J Γ h 0 0 27 [(0, .int c)] [.int v4] := by
    intro v4 ev4
    exact J_iret X rr (dt tX3_numbersOf 14 rfl) (Nat.zero_le _) (Nat.zero_le _) (by subst_vars; exact ⟨rfl, rfl⟩)
  refine J_icmp_ne X 10 (dt tX3_numbersOf 2 rfl) (by decide) (fun c1 => ?_) (fun c1 => ?_)
  · refine J_iload_n X (dt tX3_numbersOf 5 rfl) 0 rfl ?_
    refine J_bipush X (nI 115) (dt tX3_numbersOf 6 rfl) (by decide) ?_
    refine J_icmp_eq X 22 (dt tX3_numbersOf 7 rfl) (by decide) (fun c2 => ?_) (fun c2 => ?_)
    · refine J_iconst X (nI 2) (dt tX3_numbersOf 11 rfl) (by decide) ?_
      refine J_goto X (tgt := 27) (dt tX3_numbersOf 12 rfl) (by decide) ?_
      exact kj5 _ ((if_neg c1).trans (if_pos c2)).symm
    · refine J_iload_n X (dt tX3_numbersOf 8 rfl) 0 rfl ?_
      refine J_bipush X (nI 106) (dt tX3_numbersOf 9 rfl) (by decide) ?_
      refine J_icmp_ne X 26 (dt tX3_numbersOf 10 rfl) (by decide) (fun c3 => ?_) (fun c3 => ?_)
      · refine J_iconst X (nI 1) (dt tX3_numbersOf 13 rfl) (by decide) ?_
        exact kj5 _ ((if_neg c1).trans ((if_neg c2).trans (if_neg c3))).symm
      · refine J_iconst X (nI 2) (dt tX3_numbersOf 11 rfl) (by decide) ?_
        refine J_goto X (tgt := 27) (dt tX3_numbersOf 12 rfl) (by decide) ?_
        exact kj5 _ ((if_neg c1).trans ((if_neg c2).trans (if_pos c3))).symm
  · refine J_iconst X (nI 3) (dt tX3_numbersOf 3 rfl) (by decide) ?_
    refine J_goto X (tgt := 27) (dt tX3_numbersOf 4 rfl) (by decide) ?_
    exact kj5 _ (if_pos c1).symm
