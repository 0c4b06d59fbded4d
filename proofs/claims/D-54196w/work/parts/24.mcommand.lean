/-! printed by gen/modelm.py -/
set_option maxRecDepth 100000
theorem q2094 : (Jvm.Cond.constantLong "LeadRacesModel" (191 : Nat) (1668246885 : Int64)) ∈ lw_all := lw_g (lw_at lw_m9 106 rfl) rfl
theorem q2095 : (Jvm.Cond.methodLink "LeadRacesModel" (193 : Nat) ({ cls := "LeadRacesModel", name := "takesWord", desc := "(JI)Z" } : Jvm.MethodName)) ∈ lw_all := lw_g (lw_at lw_m9 107 rfl) rfl
theorem q2097 : (Jvm.Cond.instanceMethod ({ cls := "LeadRacesModel", name := "takesWord", desc := "(JI)Z" } : Jvm.MethodName)) ∈ lw_all := lw_g (lw_at lw_m9 109 rfl) rfl
theorem q2098 : (Jvm.Cond.code ({ cls := "LeadRacesModel", name := "takesWord", desc := "(JI)Z" } : Jvm.MethodName) prog_12_method_52_code (6 : Nat) (Option.some Jvm.ClassFile.FieldType.boolean)) ∈ lw_all := lw_g (lw_at lw_m9 110 rfl) rfl
theorem q2104 : (Jvm.Cond.constantLong "LeadRacesModel" (197 : Nat) (26479 : Int64)) ∈ lw_all := lw_g (lw_at lw_m9 116 rfl) rfl
theorem q2105 : (Jvm.Cond.constantLong "LeadRacesModel" (199 : Nat) (495806932324 : Int64)) ∈ lw_all := lw_g (lw_at lw_m9 117 rfl) rfl
theorem q2106 : (Jvm.Cond.constantLong "LeadRacesModel" (201 : Nat) (1786080624 : Int64)) ∈ lw_all := lw_g (lw_at lw_m9 118 rfl) rfl
theorem q2107 : (Jvm.Cond.constantLong "LeadRacesModel" (203 : Nat) (2002872692 : Int64)) ∈ lw_all := lw_g (lw_at lw_m9 119 rfl) rfl
theorem q2108 : (Jvm.Cond.methodLink "LeadRacesModel" (205 : Nat) ({ cls := "LeadRacesModel", name := "numbersOf", desc := "(I)I" } : Jvm.MethodName)) ∈ lw_all := lw_g (lw_at lw_m9 120 rfl) rfl
theorem q2109 : (Jvm.Cond.static ({ cls := "LeadRacesModel", name := "numbersOf", desc := "(I)I" } : Jvm.MethodName)) ∈ lw_all := lw_g (lw_at lw_m9 121 rfl) rfl
theorem q2110 : (Jvm.Cond.code ({ cls := "LeadRacesModel", name := "numbersOf", desc := "(I)I" } : Jvm.MethodName) prog_12_method_54_code (1 : Nat) (Option.some Jvm.ClassFile.FieldType.int)) ∈ lw_all := lw_g (lw_at lw_m9 122 rfl) rfl
theorem q2111 : (Jvm.Cond.methodLink "LeadRacesModel" (208 : Nat) ({ cls := "LeadRacesModel", name := "takesNumber", desc := "(I)Z" } : Jvm.MethodName)) ∈ lw_all := lw_g (lw_at lw_m9 123 rfl) rfl
theorem q2113 : (Jvm.Cond.instanceMethod ({ cls := "LeadRacesModel", name := "takesNumber", desc := "(I)Z" } : Jvm.MethodName)) ∈ lw_all := lw_g (lw_at lw_m9 125 rfl) rfl
theorem q2114 : (Jvm.Cond.code ({ cls := "LeadRacesModel", name := "takesNumber", desc := "(I)Z" } : Jvm.MethodName) prog_12_method_53_code (5 : Nat) (Option.some Jvm.ClassFile.FieldType.boolean)) ∈ lw_all := lw_g (lw_at lw_m9 126 rfl) rfl
/-! the reference reads a command, does it -/
def rnl (tx : Nat → Int32) (tl : Nat) : Nat → Nat → Nat → (Nat → Int32) → Int32 × Nat × (Nat → Int32)
  | 0, _, p, f => (1, p, f)
  | n + 1, k, p, f => if (nmb tx tl p).1 = 0 then (0, (nmb tx tl p).2.1, putN f k (nmb tx tl p).2.2) else rnl tx tl n (k + 1) (nmb tx tl p).2.1 (putN f k (nmb tx tl p).2.2)
def cmdF (tx : Nat → Int32) (tl : Nat) (r : Int32 × Nat × (Nat → Int32)) : Int32 × Nat × (Nat → Int32) := if r.1 = 0 then r else (tkR tx tl r.2.1 (nI 59), tkP tx tl r.2.1 (nI 59), r.2.2)
/-- a command from fr on, whose word is cs and which has n numbers -/
def cmdW (tx : Nat → Int32) (tl fr : Nat) (f : Nat → Int32) (cs : List Int32) (n : Nat) : Int32 × Nat × (Nat → Int32) := if (wd tx tl cs fr).1 = 0 then (0, (wd tx tl cs fr).2, f) else cmdF tx tl (rnl tx tl n 0 (wd tx tl cs fr).2 f)
def m_cmd (tx : Nat → Int32) (tl fr : Nat) (f : Nat → Int32) : Int32 × Nat × (Nat → Int32) := if tx fr = nI 99 then cmdW tx tl fr f [nI 99, nI 111, nI 109, nI 101] 3 else if tx fr = nI 103 then cmdW tx tl fr f [nI 103, nI 111] 1 else if tx fr = nI 115 then cmdW tx tl fr f [nI 115, nI 112, nI 101, nI 101, nI 100] 2 else if tx fr = nI 106 then cmdW tx tl fr f [nI 106, nI 117, nI 109, nI 112] 2 else if tx fr = nI 119 then cmdW tx tl fr f [nI 119, nI 97, nI 105, nI 116] 1 else (0, fr, f)
theorem pc_of {h0 : PH} {m : Nat} {ar : Nat → Nat} {σ : MS} {r : Int32 × Nat × (Nat → Int32)} {v : Int32} {p : Nat} {g : Nat → Int32} (e : r = (v, p, g)) : PM h0 m ar (some (.int r.1)) (stN σ r.2.2 r.2.1) (some (.int v)) (mh h0 m ar (stN σ g p)) := by
  subst e
  exact ⟨rfl, rfl⟩
theorem wch_c : wch 1668246885 [nI 99, nI 111, nI 109, nI 101] := by
  intro k hk
  rcases (show k = 0 ∨ k = 1 ∨ k = 2 ∨ k = 3 by have : k < 4 := hk; omega) with rfl | rfl | rfl | rfl <;> decide +kernel
theorem wch_g : wch 26479 [nI 103, nI 111] := by
  intro k hk
  rcases (show k = 0 ∨ k = 1 by have : k < 2 := hk; omega) with rfl | rfl <;> decide +kernel
theorem wch_s : wch 495806932324 [nI 115, nI 112, nI 101, nI 101, nI 100] := by
  intro k hk
  rcases (show k = 0 ∨ k = 1 ∨ k = 2 ∨ k = 3 ∨ k = 4 by have : k < 5 := hk; omega) with rfl | rfl | rfl | rfl | rfl <;> decide +kernel
theorem wch_j : wch 1786080624 [nI 106, nI 117, nI 109, nI 112] := by
  intro k hk
  rcases (show k = 0 ∨ k = 1 ∨ k = 2 ∨ k = 3 by have : k < 4 := hk; omega) with rfl | rfl | rfl | rfl <;> decide +kernel
theorem wch_w : wch 2002872692 [nI 119, nI 97, nI 105, nI 116] := by
  intro k hk
  rcases (show k = 0 ∨ k = 1 ∨ k = 2 ∨ k = 3 by have : k < 4 := hk; omega) with rfl | rfl | rfl | rfl <;> decide +kernel
theorem cmdF_Y {tx : Nat → Int32} {tl p k : Nat} {g : Nat → Int32} (hy : p < tl ∧ tx p = nI 59) : cmdF tx tl (rnl tx tl 0 k p g) = (nI 1, p + 1, g) := by
  rw [rnl]
  unfold cmdF
  rw [if_neg (show ¬ (1 : Int32) = 0 by decide)]
  unfold tkR tkP
  rw [if_pos hy.1, if_pos hy.2, if_pos hy.1, if_pos hy.2]
  rfl
theorem cmdF_N {tx : Nat → Int32} {tl p k : Nat} {g : Nat → Int32} (hn : ¬ (p < tl ∧ tx p = nI 59)) : cmdF tx tl (rnl tx tl 0 k p g) = (nI 0, p, g) := by
  rw [rnl]
  unfold cmdF
  rw [if_neg (show ¬ (1 : Int32) = 0 by decide)]
  have e1 : tkR tx tl p (nI 59) = 0 := by
    unfold tkR
    by_cases h1 : p < tl
    · rw [if_pos h1, if_neg (fun z => hn ⟨h1, z⟩)]
    · rw [if_neg h1]
  have e2 : tkP tx tl p (nI 59) = p := by
    unfold tkP
    by_cases h1 : p < tl
    · rw [if_pos h1, if_neg (fun z => hn ⟨h1, z⟩)]
    · rw [if_neg h1]
  dsimp only
  rw [e1, e2]
  rfl
abbrev cX3_readsCommand : ByteArray := prog_12_method_55_code
def yX3_readsCommand : MethodName := ⟨RX3, "readsCommand", "()Z"⟩
theorem tX3_readsCommand : dtab cX3_readsCommand [(0, .aload_n 0, 1, 1), (1, .aload_n 0, 1, 2), (2, .getfield 188, 3, 5), (5, .putfield 176, 3, 8), (8, .aload_n 0, 1, 9), (9, .getfield 22, 3, 12), (12, .aload_n 0, 1, 13), (13, .getfield 188, 3, 16), (16, .iaload, 1, 17), (17, .istore_n 1, 1, 18), (18, .iload_n 1, 1, 19), (19, .bipush 99, 2, 21), (21, .if_icmp .ne 14, 3, 24), (24, .aload_n 0, 1, 25), (25, .ldc2_w 191, 3, 28), (28, .iconst 4, 1, 29), (29, .invokevirtual 193, 3, 32), (32, .goto 76, 3, 35), (35, .iload_n 1, 1, 36), (36, .bipush 103, 2, 38), (38, .if_icmp .ne 14, 3, 41), (41, .aload_n 0, 1, 42), (42, .ldc2_w 197, 3, 45), (45, .iconst 2, 1, 46), (46, .invokevirtual 193, 3, 49), (49, .goto 59, 3, 52), (52, .iload_n 1, 1, 53), (53, .bipush 115, 2, 55), (55, .if_icmp .ne 14, 3, 58), (58, .aload_n 0, 1, 59), (59, .ldc2_w 199, 3, 62), (62, .iconst 5, 1, 63), (63, .invokevirtual 193, 3, 66), (66, .goto 42, 3, 69), (69, .iload_n 1, 1, 70), (70, .bipush 106, 2, 72), (72, .if_icmp .ne 14, 3, 75), (75, .aload_n 0, 1, 76), (76, .ldc2_w 201, 3, 79), (79, .iconst 4, 1, 80), (80, .invokevirtual 193, 3, 83), (83, .goto 25, 3, 86), (86, .iload_n 1, 1, 87), (87, .bipush 119, 2, 89), (89, .if_icmp .ne 18, 3, 92), (92, .aload_n 0, 1, 93), (93, .ldc2_w 203, 3, 96), (96, .iconst 4, 1, 97), (97, .invokevirtual 193, 3, 100), (100, .ifCond .eq 7, 3, 103), (103, .iconst 1, 1, 104), (104, .goto 4, 3, 107), (107, .iconst 0, 1, 108), (108, .istore_n 2, 1, 109), (109, .iconst 0, 1, 110), (110, .istore_n 3, 1, 111), (111, .iload_n 3, 1, 112), (112, .iload_n 1, 1, 113), (113, .invokestatic 205, 3, 116), (116, .if_icmp .ge 19, 3, 119), (119, .iload_n 2, 1, 120), (120, .ifCond .eq 15, 3, 123), (123, .aload_n 0, 1, 124), (124, .iload_n 3, 1, 125), (125, .invokevirtual 208, 3, 128), (128, .istore_n 2, 1, 129), (129, .iinc 3 1, 3, 132), (132, .goto (-21), 3, 135), (135, .iload_n 2, 1, 136), (136, .ifCond .eq 16, 3, 139), (139, .aload_n 0, 1, 140), (140, .bipush 59, 2, 142), (142, .invokevirtual 181, 3, 145), (145, .ifCond .eq 7, 3, 148), (148, .iconst 1, 1, 149), (149, .goto 4, 3, 152), (152, .iconst 0, 1, 153), (153, .ireturn, 1, 154)] := by unfold dtab; decide +kernel
theorem okX3_readsCommand : okY yX3_readsCommand 0 := by decide +kernel
set_option maxHeartbeats 4000000 in
theorem c_readsCommand (l : Launch) (D : va_G) {h0 : PH} {m : Nat} {ar : Nat → Nat} (hd : md m ar) (σ : MS)  (tl fr : Nat) (htl : σ.2 3 = nI tl) (tl60 : tl ≤ 60) (hfr : σ.2 4 = nI fr) (hft : fr < tl) : Ct l D yX3_readsCommand cX3_readsCommand 4 (some .boolean) (rmM 2 49) [.ref m] (mh h0 m ar σ) (PM h0 m ar (some (.int ((m_cmd (σ.1 4) tl fr (σ.1 5)).1))) (stN σ (m_cmd (σ.1 4) tl fr (σ.1 5)).2.2 (m_cmd (σ.1 4) tl fr (σ.1 5)).2.1)) := by
  refine Ct.of (by decide) rfl (fun Γ X rr hmn => ?_)
  have X : Cx l D cX3_readsCommand RX3 4 (rmM 2 49) Γ := X
  show J Γ (mh h0 m ar σ) 0 0 0 [(0, .ref m)] []
  refine J_aload_n X (dt tX3_readsCommand 0 rfl) 0 rfl ?_
  refine J_aload_n X (dt tX3_readsCommand 1 rfl) 0 rfl ?_
  refine M_get_from X (dt tX3_readsCommand 2 rfl) ?_
  refine J_topi hfr ?_
  refine M_put_at X (dt tX3_readsCommand 3 rfl) ?_
  refine J_aload_n X (dt tX3_readsCommand 4 rfl) 0 rfl ?_
  refine M_get_text X (dt tX3_readsCommand 5 rfl) ?_
  refine J_aload_n X (dt tX3_readsCommand 6 rfl) 0 rfl ?_
  refine M_get_from X (dt tX3_readsCommand 7 rfl) ?_
  refine J_topi hfr ?_
  refine M_ald_text X hd (dt tX3_readsCommand 8 rfl) (by omega) ?_
  refine J_istore_n X (lv2 := [(1, .int (σ.1 4 fr)), (0, .ref m)]) (dt tX3_readsCommand 9 rfl) rfl rfl rfl ?_
  have key : ∀ cnt, cnt ≤ 3 → m_numbersOf (σ.1 4 fr) = nI cnt → ∀ (n k p : Nat) (g : Nat → Int32), k + n = cnt → p + 6 * n ≤ 90 → m_cmd (σ.1 4) tl fr (σ.1 5) = cmdF (σ.1 4) tl (rnl (σ.1 4) tl n k p g) → J Γ (mh h0 m ar (sV (sA σ 5 g) 5 (nI p))) 0 0 111 [(0, .ref m), (1, .int (σ.1 4 fr)), (2, .int (nI 1)), (3, .int (nI k))] [] := by
    intro cnt hc3 hcnt n
    induction n with
    | zero =>
      intro k p g hk hp hw
      refine J_iload_n X (dt tX3_readsCommand 56 rfl) 3 rfl ?_
      refine J_iload_n X (dt tX3_readsCommand 57 rfl) 1 rfl ?_
      refine S_callS (rest := [.int (nI k)]) X (dt tX3_readsCommand 58 rfl) (c_numbersOf l D _ (σ.1 4 fr) ) (lw_S q2108 q2109 q86 q2110) okX3_numbersOf rfl ⟨Nat.le_of_ble_eq_true rfl, Nat.le_of_ble_eq_true rfl⟩ rfl (Nat.le_of_ble_eq_true rfl) (Nat.zero_le _) (Nat.zero_le _) ?_
      refine J_topi hcnt ?_
      refine J_icmp_ge X 135 (dt tX3_readsCommand 59 rfl) (by decide) (fun _ => ?_) (fun c9 => absurd (nI_le (by omega) (by omega)) c9)
      refine J_iload_n X (dt tX3_readsCommand 68 rfl) 2 rfl ?_
      refine J_if_eq X 152 (dt tX3_readsCommand 69 rfl) (by decide) (fun c9 => absurd c9 ((by decide))) (fun _ => ?_)
      refine J_aload_n X (dt tX3_readsCommand 70 rfl) 0 rfl ?_
      refine J_bipush X (nI 59) (dt tX3_readsCommand 71 rfl) (by decide) ?_
      by_cases hy : p < tl ∧ σ.1 4 p = nI 59
      · refine M_callV (rest := []) X (dt tX3_readsCommand 72 rfl) (c_takesY l D hd (sA σ 5 g) (nI 59) tl p htl tl60 (by omega) hy) (lw_V q2100 q2102 qs64 q86 q2103) okX3_takes rfl rfl ⟨Nat.le_of_ble_eq_true rfl, Nat.le_of_ble_eq_true rfl⟩ rfl (Nat.le_of_ble_eq_true rfl) (Nat.zero_le _) (Nat.zero_le _) ?_
        refine J_if_eq X 152 (dt tX3_readsCommand 73 rfl) (by decide) (fun c9 => absurd c9 ((by decide))) (fun _ => ?_)
        refine J_iconst X (nI 1) (dt tX3_readsCommand 74 rfl) (by decide) ?_
        refine J_goto X (tgt := 153) (dt tX3_readsCommand 75 rfl) (by decide) ?_
        exact J_zret X rr (dt tX3_readsCommand 77 rfl) (Nat.zero_le _) (Nat.zero_le _) (isB.nar isB_1) (pc_of (hw.trans (cmdF_Y hy)))
      · refine M_callV (rest := []) X (dt tX3_readsCommand 72 rfl) (c_takesN l D hd (sA σ 5 g) (nI 59) tl p htl tl60 (by omega) hy) (lw_V q2100 q2102 qs64 q86 q2103) okX3_takes rfl rfl ⟨Nat.le_of_ble_eq_true rfl, Nat.le_of_ble_eq_true rfl⟩ rfl (Nat.le_of_ble_eq_true rfl) (Nat.zero_le _) (Nat.zero_le _) ?_
        refine J_if_eq X 152 (dt tX3_readsCommand 73 rfl) (by decide) (fun _ => ?_) (fun c9 => absurd (rfl) c9)
        refine J_iconst X (nI 0) (dt tX3_readsCommand 76 rfl) (by decide) ?_
        exact J_zret X rr (dt tX3_readsCommand 77 rfl) (Nat.zero_le _) (Nat.zero_le _) (isB.nar isB_0) (pc_of (hw.trans (cmdF_N hy)))
    | succ n ih =>
      intro k p g hk hp hw
      refine J_iload_n X (dt tX3_readsCommand 56 rfl) 3 rfl ?_
      refine J_iload_n X (dt tX3_readsCommand 57 rfl) 1 rfl ?_
      refine S_callS (rest := [.int (nI k)]) X (dt tX3_readsCommand 58 rfl) (c_numbersOf l D _ (σ.1 4 fr) ) (lw_S q2108 q2109 q86 q2110) okX3_numbersOf rfl ⟨Nat.le_of_ble_eq_true rfl, Nat.le_of_ble_eq_true rfl⟩ rfl (Nat.le_of_ble_eq_true rfl) (Nat.zero_le _) (Nat.zero_le _) ?_
      refine J_topi hcnt ?_
      refine J_icmp_ge X 135 (dt tX3_readsCommand 59 rfl) (by decide) (fun c9 => absurd c9 (nI_ge (by omega) (by omega))) (fun _ => ?_)
      refine J_iload_n X (dt tX3_readsCommand 60 rfl) 2 rfl ?_
      refine J_if_eq X 135 (dt tX3_readsCommand 61 rfl) (by decide) (fun c9 => absurd c9 ((by decide))) (fun _ => ?_)
      refine J_aload_n X (dt tX3_readsCommand 62 rfl) 0 rfl ?_
      refine J_iload_n X (dt tX3_readsCommand 63 rfl) 3 rfl ?_
      refine M_callV (rest := []) X (dt tX3_readsCommand 64 rfl) (c_takesNumber l D hd σ k g tl p htl tl60 (by omega) (by omega)) (lw_V q2111 q2113 qs65 q86 q2114) okX3_takesNumber rfl rfl ⟨Nat.le_of_ble_eq_true rfl, Nat.le_of_ble_eq_true rfl⟩ rfl (Nat.le_of_ble_eq_true rfl) (Nat.zero_le _) (Nat.zero_le _) ?_
      have hle := nmb_le (σ.1 4) tl p
      have hB := nmb_B (σ.1 4) tl p
      rw [rnl] at hw
      obtain ⟨r, er⟩ : ∃ z, z = nmb (σ.1 4) tl p := ⟨_, rfl⟩
      rw [← er] at hle hB hw ⊢
      rcases hB with e0 | e1
      · rw [if_pos e0] at hw
        refine J_topi (y := nI 0) e0 ?_
        refine J_istore_n X (lv2 := [(2, .int (nI 0)), (0, .ref m), (1, .int (σ.1 4 fr)), (3, .int (nI k))]) (dt tX3_readsCommand 65 rfl) rfl rfl rfl ?_
        refine J_iinc X (lv2 := [(3, .int (nI (k + 1))), (2, .int (nI 0)), (0, .ref m), (1, .int (σ.1 4 fr))]) (dt tX3_readsCommand 66 rfl) 3 (nI (k + 1)) rfl (nI_add k 1) rfl rfl ?_
        refine J_goto X (tgt := 111) (dt tX3_readsCommand 67 rfl) (by decide) ?_
        refine J_iload_n X (dt tX3_readsCommand 56 rfl) 0 rfl ?_
        refine J_iload_n X (dt tX3_readsCommand 57 rfl) 3 rfl ?_
        refine S_callS (rest := [.int (nI (k + 1))]) X (dt tX3_readsCommand 58 rfl) (c_numbersOf l D _ (σ.1 4 fr) ) (lw_S q2108 q2109 q86 q2110) okX3_numbersOf rfl ⟨Nat.le_of_ble_eq_true rfl, Nat.le_of_ble_eq_true rfl⟩ rfl (Nat.le_of_ble_eq_true rfl) (Nat.zero_le _) (Nat.zero_le _) ?_
        refine J_topi hcnt ?_
        have kj2 : J Γ (mh h0 m ar (sV (sA σ 5 (putN g k r.2.2)) 5 (nI r.2.1))) 0 0 135 [(3, .int (nI (k + 1))), (2, .int (nI 0)), (0, .ref m), (1, .int (σ.1 4 fr))] [] := by
          refine J_iload_n X (dt tX3_readsCommand 68 rfl) 1 rfl ?_
          refine J_if_eq X 152 (dt tX3_readsCommand 69 rfl) (by decide) (fun _ => ?_) (fun c9 => absurd (rfl) c9)
          refine J_iconst X (nI 0) (dt tX3_readsCommand 76 rfl) (by decide) ?_
          exact J_zret X rr (dt tX3_readsCommand 77 rfl) (Nat.zero_le _) (Nat.zero_le _) (isB.nar isB_0) (pc_of (hw.trans (if_pos rfl)))
        refine J_icmp_ge X 135 (dt tX3_readsCommand 59 rfl) (by decide) (fun c1 => ?_) (fun c1 => ?_)
        · exact kj2
        · refine J_iload_n X (dt tX3_readsCommand 60 rfl) 1 rfl ?_
          refine J_if_eq X 135 (dt tX3_readsCommand 61 rfl) (by decide) (fun _ => ?_) (fun c9 => absurd (rfl) c9)
          exact kj2
      · rw [if_neg (by rw [e1]; decide)] at hw
        refine J_topi (y := nI 1) e1 ?_
        refine J_istore_n X (lv2 := [(2, .int (nI 1)), (0, .ref m), (1, .int (σ.1 4 fr)), (3, .int (nI k))]) (dt tX3_readsCommand 65 rfl) rfl rfl rfl ?_
        refine J_iinc X (lv2 := [(3, .int (nI (k + 1))), (2, .int (nI 1)), (0, .ref m), (1, .int (σ.1 4 fr))]) (dt tX3_readsCommand 66 rfl) 3 (nI (k + 1)) rfl (nI_add k 1) rfl rfl ?_
        refine J_goto X (tgt := 111) (dt tX3_readsCommand 67 rfl) (by decide) ?_
        refine J_sub [2, 3, 1, 0] rfl ?_
        exact ih (k + 1) _ _ (by omega) (by omega) hw
  by_cases hLc : σ.1 4 fr = nI 99
  · refine J_iload_n X (dt tX3_readsCommand 10 rfl) 0 rfl ?_
    refine J_bipush X (nI 99) (dt tX3_readsCommand 11 rfl) (by decide) ?_
    refine J_icmp_ne X 35 (dt tX3_readsCommand 12 rfl) (by decide) (fun c9 => absurd (hLc) c9) (fun _ => ?_)
    refine J_aload_n X (dt tX3_readsCommand 13 rfl) 1 rfl ?_
    refine J_ldc2 X (dt tX3_readsCommand 14 rfl) q2094 ?_
    refine J_iconst X (nI 4) (dt tX3_readsCommand 15 rfl) (by decide) ?_
    refine M_callV (rest := []) X (dt tX3_readsCommand 16 rfl) (c_takesWord l D hd σ 1668246885 4 [nI 99, nI 111, nI 109, nI 101] rfl wch_c tl fr htl tl60 (by show fr + 4 ≤ 100; omega)) (lw_V q2095 q2097 qs63 q86 q2098) okX3_takesWord rfl rfl ⟨Nat.le_of_ble_eq_true rfl, Nat.le_of_ble_eq_true rfl⟩ rfl (Nat.le_of_ble_eq_true rfl) (Nat.zero_le _) (Nat.zero_le _) ?_
    have hw := wd_B (σ.1 4) tl [nI 99, nI 111, nI 109, nI 101] fr
    have hwl : (wd (σ.1 4) tl [nI 99, nI 111, nI 109, nI 101] fr).2 ≤ fr + 4 := wd_le (σ.1 4) tl [nI 99, nI 111, nI 109, nI 101] fr
    obtain ⟨wr, ewr⟩ : ∃ z, z = wd (σ.1 4) tl [nI 99, nI 111, nI 109, nI 101] fr := ⟨_, rfl⟩
    rw [← ewr] at hw hwl ⊢
    have hcm : m_cmd (σ.1 4) tl fr (σ.1 5) = if wr.1 = 0 then (0, wr.2, σ.1 5) else cmdF (σ.1 4) tl (rnl (σ.1 4) tl 3 0 wr.2 (σ.1 5)) := by rw [ewr]; exact if_pos hLc
    have hno : m_numbersOf (σ.1 4 fr) = nI 3 := by rw [hLc]; decide
    rcases hw with e0 | e1
    · rw [if_pos e0] at hcm
      refine J_topi (y := nI 0) e0 ?_
      refine J_goto X (tgt := 108) (dt tX3_readsCommand 17 rfl) (by decide) ?_
      refine J_istore_n X (lv2 := [(2, .int (nI 0)), (1, .int (σ.1 4 fr)), (0, .ref m)]) (dt tX3_readsCommand 53 rfl) rfl rfl rfl ?_
      refine J_iconst X (nI 0) (dt tX3_readsCommand 54 rfl) (by decide) ?_
      refine J_istore_n X (lv2 := [(3, .int (nI 0)), (2, .int (nI 0)), (1, .int (σ.1 4 fr)), (0, .ref m)]) (dt tX3_readsCommand 55 rfl) rfl rfl rfl ?_
      refine J_iload_n X (dt tX3_readsCommand 56 rfl) 0 rfl ?_
      refine J_iload_n X (dt tX3_readsCommand 57 rfl) 2 rfl ?_
      refine S_callS (rest := [.int (nI 0)]) X (dt tX3_readsCommand 58 rfl) (c_numbersOf l D _ (σ.1 4 fr) ) (lw_S q2108 q2109 q86 q2110) okX3_numbersOf rfl ⟨Nat.le_of_ble_eq_true rfl, Nat.le_of_ble_eq_true rfl⟩ rfl (Nat.le_of_ble_eq_true rfl) (Nat.zero_le _) (Nat.zero_le _) ?_
      refine J_topi hno ?_
      refine J_icmp_ge X 135 (dt tX3_readsCommand 59 rfl) (by decide) (fun c9 => absurd c9 ((by decide))) (fun _ => ?_)
      refine J_iload_n X (dt tX3_readsCommand 60 rfl) 1 rfl ?_
      refine J_if_eq X 135 (dt tX3_readsCommand 61 rfl) (by decide) (fun _ => ?_) (fun c9 => absurd (rfl) c9)
      refine J_iload_n X (dt tX3_readsCommand 68 rfl) 1 rfl ?_
      refine J_if_eq X 152 (dt tX3_readsCommand 69 rfl) (by decide) (fun _ => ?_) (fun c9 => absurd (rfl) c9)
      refine J_iconst X (nI 0) (dt tX3_readsCommand 76 rfl) (by decide) ?_
      exact J_zret X rr (dt tX3_readsCommand 77 rfl) (Nat.zero_le _) (Nat.zero_le _) (isB.nar isB_0) (by rw [stN_id]; exact pc_of hcm)
    · rw [if_neg (by rw [e1]; decide)] at hcm
      refine J_topi (y := nI 1) e1 ?_
      refine J_goto X (tgt := 108) (dt tX3_readsCommand 17 rfl) (by decide) ?_
      refine J_istore_n X (lv2 := [(2, .int (nI 1)), (1, .int (σ.1 4 fr)), (0, .ref m)]) (dt tX3_readsCommand 53 rfl) rfl rfl rfl ?_
      refine J_iconst X (nI 0) (dt tX3_readsCommand 54 rfl) (by decide) ?_
      refine J_istore_n X (lv2 := [(3, .int (nI 0)), (2, .int (nI 1)), (1, .int (σ.1 4 fr)), (0, .ref m)]) (dt tX3_readsCommand 55 rfl) rfl rfl rfl ?_
      refine J_sub [3, 2, 1, 0] rfl ?_
      refine J_heap (congrArg (mh h0 m ar) (stN_id σ wr.2)) ?_
      exact key 3 (by decide) hno 3 0 wr.2 (σ.1 5) (by decide) (by omega) hcm
  · skip
    by_cases hLg : σ.1 4 fr = nI 103
    · refine J_iload_n X (dt tX3_readsCommand 10 rfl) 0 rfl ?_
      refine J_bipush X (nI 99) (dt tX3_readsCommand 11 rfl) (by decide) ?_
      refine J_icmp_ne X 35 (dt tX3_readsCommand 12 rfl) (by decide) (fun _ => ?_) (fun c9 => absurd c9 (hLc))
      refine J_iload_n X (dt tX3_readsCommand 18 rfl) 0 rfl ?_
      refine J_bipush X (nI 103) (dt tX3_readsCommand 19 rfl) (by decide) ?_
      refine J_icmp_ne X 52 (dt tX3_readsCommand 20 rfl) (by decide) (fun c9 => absurd (hLg) c9) (fun _ => ?_)
      refine J_aload_n X (dt tX3_readsCommand 21 rfl) 1 rfl ?_
      refine J_ldc2 X (dt tX3_readsCommand 22 rfl) q2104 ?_
      refine J_iconst X (nI 2) (dt tX3_readsCommand 23 rfl) (by decide) ?_
      refine M_callV (rest := []) X (dt tX3_readsCommand 24 rfl) (c_takesWord l D hd σ 26479 2 [nI 103, nI 111] rfl wch_g tl fr htl tl60 (by show fr + 2 ≤ 100; omega)) (lw_V q2095 q2097 qs63 q86 q2098) okX3_takesWord rfl rfl ⟨Nat.le_of_ble_eq_true rfl, Nat.le_of_ble_eq_true rfl⟩ rfl (Nat.le_of_ble_eq_true rfl) (Nat.zero_le _) (Nat.zero_le _) ?_
      have hw := wd_B (σ.1 4) tl [nI 103, nI 111] fr
      have hwl : (wd (σ.1 4) tl [nI 103, nI 111] fr).2 ≤ fr + 2 := wd_le (σ.1 4) tl [nI 103, nI 111] fr
      obtain ⟨wr, ewr⟩ : ∃ z, z = wd (σ.1 4) tl [nI 103, nI 111] fr := ⟨_, rfl⟩
      rw [← ewr] at hw hwl ⊢
      have hcm : m_cmd (σ.1 4) tl fr (σ.1 5) = if wr.1 = 0 then (0, wr.2, σ.1 5) else cmdF (σ.1 4) tl (rnl (σ.1 4) tl 1 0 wr.2 (σ.1 5)) := by rw [ewr]; exact (if_neg hLc).trans (if_pos hLg)
      have hno : m_numbersOf (σ.1 4 fr) = nI 1 := by rw [hLg]; decide
      rcases hw with e0 | e1
      · rw [if_pos e0] at hcm
        refine J_topi (y := nI 0) e0 ?_
        refine J_goto X (tgt := 108) (dt tX3_readsCommand 25 rfl) (by decide) ?_
        refine J_istore_n X (lv2 := [(2, .int (nI 0)), (1, .int (σ.1 4 fr)), (0, .ref m)]) (dt tX3_readsCommand 53 rfl) rfl rfl rfl ?_
        refine J_iconst X (nI 0) (dt tX3_readsCommand 54 rfl) (by decide) ?_
        refine J_istore_n X (lv2 := [(3, .int (nI 0)), (2, .int (nI 0)), (1, .int (σ.1 4 fr)), (0, .ref m)]) (dt tX3_readsCommand 55 rfl) rfl rfl rfl ?_
        refine J_iload_n X (dt tX3_readsCommand 56 rfl) 0 rfl ?_
        refine J_iload_n X (dt tX3_readsCommand 57 rfl) 2 rfl ?_
        refine S_callS (rest := [.int (nI 0)]) X (dt tX3_readsCommand 58 rfl) (c_numbersOf l D _ (σ.1 4 fr) ) (lw_S q2108 q2109 q86 q2110) okX3_numbersOf rfl ⟨Nat.le_of_ble_eq_true rfl, Nat.le_of_ble_eq_true rfl⟩ rfl (Nat.le_of_ble_eq_true rfl) (Nat.zero_le _) (Nat.zero_le _) ?_
        refine J_topi hno ?_
        refine J_icmp_ge X 135 (dt tX3_readsCommand 59 rfl) (by decide) (fun c9 => absurd c9 ((by decide))) (fun _ => ?_)
        refine J_iload_n X (dt tX3_readsCommand 60 rfl) 1 rfl ?_
        refine J_if_eq X 135 (dt tX3_readsCommand 61 rfl) (by decide) (fun _ => ?_) (fun c9 => absurd (rfl) c9)
        refine J_iload_n X (dt tX3_readsCommand 68 rfl) 1 rfl ?_
        refine J_if_eq X 152 (dt tX3_readsCommand 69 rfl) (by decide) (fun _ => ?_) (fun c9 => absurd (rfl) c9)
        refine J_iconst X (nI 0) (dt tX3_readsCommand 76 rfl) (by decide) ?_
        exact J_zret X rr (dt tX3_readsCommand 77 rfl) (Nat.zero_le _) (Nat.zero_le _) (isB.nar isB_0) (by rw [stN_id]; exact pc_of hcm)
      · rw [if_neg (by rw [e1]; decide)] at hcm
        refine J_topi (y := nI 1) e1 ?_
        refine J_goto X (tgt := 108) (dt tX3_readsCommand 25 rfl) (by decide) ?_
        refine J_istore_n X (lv2 := [(2, .int (nI 1)), (1, .int (σ.1 4 fr)), (0, .ref m)]) (dt tX3_readsCommand 53 rfl) rfl rfl rfl ?_
        refine J_iconst X (nI 0) (dt tX3_readsCommand 54 rfl) (by decide) ?_
        refine J_istore_n X (lv2 := [(3, .int (nI 0)), (2, .int (nI 1)), (1, .int (σ.1 4 fr)), (0, .ref m)]) (dt tX3_readsCommand 55 rfl) rfl rfl rfl ?_
        refine J_sub [3, 2, 1, 0] rfl ?_
        refine J_heap (congrArg (mh h0 m ar) (stN_id σ wr.2)) ?_
        exact key 1 (by decide) hno 1 0 wr.2 (σ.1 5) (by decide) (by omega) hcm
    · skip
      by_cases hLs : σ.1 4 fr = nI 115
      · refine J_iload_n X (dt tX3_readsCommand 10 rfl) 0 rfl ?_
        refine J_bipush X (nI 99) (dt tX3_readsCommand 11 rfl) (by decide) ?_
        refine J_icmp_ne X 35 (dt tX3_readsCommand 12 rfl) (by decide) (fun _ => ?_) (fun c9 => absurd c9 (hLc))
        refine J_iload_n X (dt tX3_readsCommand 18 rfl) 0 rfl ?_
        refine J_bipush X (nI 103) (dt tX3_readsCommand 19 rfl) (by decide) ?_
        refine J_icmp_ne X 52 (dt tX3_readsCommand 20 rfl) (by decide) (fun _ => ?_) (fun c9 => absurd c9 (hLg))
        refine J_iload_n X (dt tX3_readsCommand 26 rfl) 0 rfl ?_
        refine J_bipush X (nI 115) (dt tX3_readsCommand 27 rfl) (by decide) ?_
        refine J_icmp_ne X 69 (dt tX3_readsCommand 28 rfl) (by decide) (fun c9 => absurd (hLs) c9) (fun _ => ?_)
        refine J_aload_n X (dt tX3_readsCommand 29 rfl) 1 rfl ?_
        refine J_ldc2 X (dt tX3_readsCommand 30 rfl) q2105 ?_
        refine J_iconst X (nI 5) (dt tX3_readsCommand 31 rfl) (by decide) ?_
        refine M_callV (rest := []) X (dt tX3_readsCommand 32 rfl) (c_takesWord l D hd σ 495806932324 5 [nI 115, nI 112, nI 101, nI 101, nI 100] rfl wch_s tl fr htl tl60 (by show fr + 5 ≤ 100; omega)) (lw_V q2095 q2097 qs63 q86 q2098) okX3_takesWord rfl rfl ⟨Nat.le_of_ble_eq_true rfl, Nat.le_of_ble_eq_true rfl⟩ rfl (Nat.le_of_ble_eq_true rfl) (Nat.zero_le _) (Nat.zero_le _) ?_
        have hw := wd_B (σ.1 4) tl [nI 115, nI 112, nI 101, nI 101, nI 100] fr
        have hwl : (wd (σ.1 4) tl [nI 115, nI 112, nI 101, nI 101, nI 100] fr).2 ≤ fr + 5 := wd_le (σ.1 4) tl [nI 115, nI 112, nI 101, nI 101, nI 100] fr
        obtain ⟨wr, ewr⟩ : ∃ z, z = wd (σ.1 4) tl [nI 115, nI 112, nI 101, nI 101, nI 100] fr := ⟨_, rfl⟩
        rw [← ewr] at hw hwl ⊢
        have hcm : m_cmd (σ.1 4) tl fr (σ.1 5) = if wr.1 = 0 then (0, wr.2, σ.1 5) else cmdF (σ.1 4) tl (rnl (σ.1 4) tl 2 0 wr.2 (σ.1 5)) := by rw [ewr]; exact (if_neg hLc).trans ((if_neg hLg).trans (if_pos hLs))
        have hno : m_numbersOf (σ.1 4 fr) = nI 2 := by rw [hLs]; decide
        rcases hw with e0 | e1
        · rw [if_pos e0] at hcm
          refine J_topi (y := nI 0) e0 ?_
          refine J_goto X (tgt := 108) (dt tX3_readsCommand 33 rfl) (by decide) ?_
          refine J_istore_n X (lv2 := [(2, .int (nI 0)), (1, .int (σ.1 4 fr)), (0, .ref m)]) (dt tX3_readsCommand 53 rfl) rfl rfl rfl ?_
          refine J_iconst X (nI 0) (dt tX3_readsCommand 54 rfl) (by decide) ?_
          refine J_istore_n X (lv2 := [(3, .int (nI 0)), (2, .int (nI 0)), (1, .int (σ.1 4 fr)), (0, .ref m)]) (dt tX3_readsCommand 55 rfl) rfl rfl rfl ?_
          refine J_iload_n X (dt tX3_readsCommand 56 rfl) 0 rfl ?_
          refine J_iload_n X (dt tX3_readsCommand 57 rfl) 2 rfl ?_
          refine S_callS (rest := [.int (nI 0)]) X (dt tX3_readsCommand 58 rfl) (c_numbersOf l D _ (σ.1 4 fr) ) (lw_S q2108 q2109 q86 q2110) okX3_numbersOf rfl ⟨Nat.le_of_ble_eq_true rfl, Nat.le_of_ble_eq_true rfl⟩ rfl (Nat.le_of_ble_eq_true rfl) (Nat.zero_le _) (Nat.zero_le _) ?_
          refine J_topi hno ?_
          refine J_icmp_ge X 135 (dt tX3_readsCommand 59 rfl) (by decide) (fun c9 => absurd c9 ((by decide))) (fun _ => ?_)
          refine J_iload_n X (dt tX3_readsCommand 60 rfl) 1 rfl ?_
          refine J_if_eq X 135 (dt tX3_readsCommand 61 rfl) (by decide) (fun _ => ?_) (fun c9 => absurd (rfl) c9)
          refine J_iload_n X (dt tX3_readsCommand 68 rfl) 1 rfl ?_
          refine J_if_eq X 152 (dt tX3_readsCommand 69 rfl) (by decide) (fun _ => ?_) (fun c9 => absurd (rfl) c9)
          refine J_iconst X (nI 0) (dt tX3_readsCommand 76 rfl) (by decide) ?_
          exact J_zret X rr (dt tX3_readsCommand 77 rfl) (Nat.zero_le _) (Nat.zero_le _) (isB.nar isB_0) (by rw [stN_id]; exact pc_of hcm)
        · rw [if_neg (by rw [e1]; decide)] at hcm
          refine J_topi (y := nI 1) e1 ?_
          refine J_goto X (tgt := 108) (dt tX3_readsCommand 33 rfl) (by decide) ?_
          refine J_istore_n X (lv2 := [(2, .int (nI 1)), (1, .int (σ.1 4 fr)), (0, .ref m)]) (dt tX3_readsCommand 53 rfl) rfl rfl rfl ?_
          refine J_iconst X (nI 0) (dt tX3_readsCommand 54 rfl) (by decide) ?_
          refine J_istore_n X (lv2 := [(3, .int (nI 0)), (2, .int (nI 1)), (1, .int (σ.1 4 fr)), (0, .ref m)]) (dt tX3_readsCommand 55 rfl) rfl rfl rfl ?_
          refine J_sub [3, 2, 1, 0] rfl ?_
          refine J_heap (congrArg (mh h0 m ar) (stN_id σ wr.2)) ?_
          exact key 2 (by decide) hno 2 0 wr.2 (σ.1 5) (by decide) (by omega) hcm
      · skip
        by_cases hLj : σ.1 4 fr = nI 106
        · refine J_iload_n X (dt tX3_readsCommand 10 rfl) 0 rfl ?_
          refine J_bipush X (nI 99) (dt tX3_readsCommand 11 rfl) (by decide) ?_
          refine J_icmp_ne X 35 (dt tX3_readsCommand 12 rfl) (by decide) (fun _ => ?_) (fun c9 => absurd c9 (hLc))
          refine J_iload_n X (dt tX3_readsCommand 18 rfl) 0 rfl ?_
          refine J_bipush X (nI 103) (dt tX3_readsCommand 19 rfl) (by decide) ?_
          refine J_icmp_ne X 52 (dt tX3_readsCommand 20 rfl) (by decide) (fun _ => ?_) (fun c9 => absurd c9 (hLg))
          refine J_iload_n X (dt tX3_readsCommand 26 rfl) 0 rfl ?_
          refine J_bipush X (nI 115) (dt tX3_readsCommand 27 rfl) (by decide) ?_
          refine J_icmp_ne X 69 (dt tX3_readsCommand 28 rfl) (by decide) (fun _ => ?_) (fun c9 => absurd c9 (hLs))
          refine J_iload_n X (dt tX3_readsCommand 34 rfl) 0 rfl ?_
          refine J_bipush X (nI 106) (dt tX3_readsCommand 35 rfl) (by decide) ?_
          refine J_icmp_ne X 86 (dt tX3_readsCommand 36 rfl) (by decide) (fun c9 => absurd (hLj) c9) (fun _ => ?_)
          refine J_aload_n X (dt tX3_readsCommand 37 rfl) 1 rfl ?_
          refine J_ldc2 X (dt tX3_readsCommand 38 rfl) q2106 ?_
          refine J_iconst X (nI 4) (dt tX3_readsCommand 39 rfl) (by decide) ?_
          refine M_callV (rest := []) X (dt tX3_readsCommand 40 rfl) (c_takesWord l D hd σ 1786080624 4 [nI 106, nI 117, nI 109, nI 112] rfl wch_j tl fr htl tl60 (by show fr + 4 ≤ 100; omega)) (lw_V q2095 q2097 qs63 q86 q2098) okX3_takesWord rfl rfl ⟨Nat.le_of_ble_eq_true rfl, Nat.le_of_ble_eq_true rfl⟩ rfl (Nat.le_of_ble_eq_true rfl) (Nat.zero_le _) (Nat.zero_le _) ?_
          have hw := wd_B (σ.1 4) tl [nI 106, nI 117, nI 109, nI 112] fr
          have hwl : (wd (σ.1 4) tl [nI 106, nI 117, nI 109, nI 112] fr).2 ≤ fr + 4 := wd_le (σ.1 4) tl [nI 106, nI 117, nI 109, nI 112] fr
          obtain ⟨wr, ewr⟩ : ∃ z, z = wd (σ.1 4) tl [nI 106, nI 117, nI 109, nI 112] fr := ⟨_, rfl⟩
          rw [← ewr] at hw hwl ⊢
          have hcm : m_cmd (σ.1 4) tl fr (σ.1 5) = if wr.1 = 0 then (0, wr.2, σ.1 5) else cmdF (σ.1 4) tl (rnl (σ.1 4) tl 2 0 wr.2 (σ.1 5)) := by rw [ewr]; exact (if_neg hLc).trans ((if_neg hLg).trans ((if_neg hLs).trans (if_pos hLj)))
          have hno : m_numbersOf (σ.1 4 fr) = nI 2 := by rw [hLj]; decide
          rcases hw with e0 | e1
          · rw [if_pos e0] at hcm
            refine J_topi (y := nI 0) e0 ?_
            refine J_goto X (tgt := 108) (dt tX3_readsCommand 41 rfl) (by decide) ?_
            refine J_istore_n X (lv2 := [(2, .int (nI 0)), (1, .int (σ.1 4 fr)), (0, .ref m)]) (dt tX3_readsCommand 53 rfl) rfl rfl rfl ?_
            refine J_iconst X (nI 0) (dt tX3_readsCommand 54 rfl) (by decide) ?_
            refine J_istore_n X (lv2 := [(3, .int (nI 0)), (2, .int (nI 0)), (1, .int (σ.1 4 fr)), (0, .ref m)]) (dt tX3_readsCommand 55 rfl) rfl rfl rfl ?_
            refine J_iload_n X (dt tX3_readsCommand 56 rfl) 0 rfl ?_
            refine J_iload_n X (dt tX3_readsCommand 57 rfl) 2 rfl ?_
            refine S_callS (rest := [.int (nI 0)]) X (dt tX3_readsCommand 58 rfl) (c_numbersOf l D _ (σ.1 4 fr) ) (lw_S q2108 q2109 q86 q2110) okX3_numbersOf rfl ⟨Nat.le_of_ble_eq_true rfl, Nat.le_of_ble_eq_true rfl⟩ rfl (Nat.le_of_ble_eq_true rfl) (Nat.zero_le _) (Nat.zero_le _) ?_
            refine J_topi hno ?_
            refine J_icmp_ge X 135 (dt tX3_readsCommand 59 rfl) (by decide) (fun c9 => absurd c9 ((by decide))) (fun _ => ?_)
            refine J_iload_n X (dt tX3_readsCommand 60 rfl) 1 rfl ?_
            refine J_if_eq X 135 (dt tX3_readsCommand 61 rfl) (by decide) (fun _ => ?_) (fun c9 => absurd (rfl) c9)
            refine J_iload_n X (dt tX3_readsCommand 68 rfl) 1 rfl ?_
            refine J_if_eq X 152 (dt tX3_readsCommand 69 rfl) (by decide) (fun _ => ?_) (fun c9 => absurd (rfl) c9)
            refine J_iconst X (nI 0) (dt tX3_readsCommand 76 rfl) (by decide) ?_
            exact J_zret X rr (dt tX3_readsCommand 77 rfl) (Nat.zero_le _) (Nat.zero_le _) (isB.nar isB_0) (by rw [stN_id]; exact pc_of hcm)
          · rw [if_neg (by rw [e1]; decide)] at hcm
            refine J_topi (y := nI 1) e1 ?_
            refine J_goto X (tgt := 108) (dt tX3_readsCommand 41 rfl) (by decide) ?_
            refine J_istore_n X (lv2 := [(2, .int (nI 1)), (1, .int (σ.1 4 fr)), (0, .ref m)]) (dt tX3_readsCommand 53 rfl) rfl rfl rfl ?_
            refine J_iconst X (nI 0) (dt tX3_readsCommand 54 rfl) (by decide) ?_
            refine J_istore_n X (lv2 := [(3, .int (nI 0)), (2, .int (nI 1)), (1, .int (σ.1 4 fr)), (0, .ref m)]) (dt tX3_readsCommand 55 rfl) rfl rfl rfl ?_
            refine J_sub [3, 2, 1, 0] rfl ?_
            refine J_heap (congrArg (mh h0 m ar) (stN_id σ wr.2)) ?_
            exact key 2 (by decide) hno 2 0 wr.2 (σ.1 5) (by decide) (by omega) hcm
        · skip
          by_cases hLw : σ.1 4 fr = nI 119
          · refine J_iload_n X (dt tX3_readsCommand 10 rfl) 0 rfl ?_
            refine J_bipush X (nI 99) (dt tX3_readsCommand 11 rfl) (by decide) ?_
            refine J_icmp_ne X 35 (dt tX3_readsCommand 12 rfl) (by decide) (fun _ => ?_) (fun c9 => absurd c9 (hLc))
            refine J_iload_n X (dt tX3_readsCommand 18 rfl) 0 rfl ?_
            refine J_bipush X (nI 103) (dt tX3_readsCommand 19 rfl) (by decide) ?_
            refine J_icmp_ne X 52 (dt tX3_readsCommand 20 rfl) (by decide) (fun _ => ?_) (fun c9 => absurd c9 (hLg))
            refine J_iload_n X (dt tX3_readsCommand 26 rfl) 0 rfl ?_
            refine J_bipush X (nI 115) (dt tX3_readsCommand 27 rfl) (by decide) ?_
            refine J_icmp_ne X 69 (dt tX3_readsCommand 28 rfl) (by decide) (fun _ => ?_) (fun c9 => absurd c9 (hLs))
            refine J_iload_n X (dt tX3_readsCommand 34 rfl) 0 rfl ?_
            refine J_bipush X (nI 106) (dt tX3_readsCommand 35 rfl) (by decide) ?_
            refine J_icmp_ne X 86 (dt tX3_readsCommand 36 rfl) (by decide) (fun _ => ?_) (fun c9 => absurd c9 (hLj))
            refine J_iload_n X (dt tX3_readsCommand 42 rfl) 0 rfl ?_
            refine J_bipush X (nI 119) (dt tX3_readsCommand 43 rfl) (by decide) ?_
            refine J_icmp_ne X 107 (dt tX3_readsCommand 44 rfl) (by decide) (fun c9 => absurd (hLw) c9) (fun _ => ?_)
            refine J_aload_n X (dt tX3_readsCommand 45 rfl) 1 rfl ?_
            refine J_ldc2 X (dt tX3_readsCommand 46 rfl) q2107 ?_
            refine J_iconst X (nI 4) (dt tX3_readsCommand 47 rfl) (by decide) ?_
            refine M_callV (rest := []) X (dt tX3_readsCommand 48 rfl) (c_takesWord l D hd σ 2002872692 4 [nI 119, nI 97, nI 105, nI 116] rfl wch_w tl fr htl tl60 (by show fr + 4 ≤ 100; omega)) (lw_V q2095 q2097 qs63 q86 q2098) okX3_takesWord rfl rfl ⟨Nat.le_of_ble_eq_true rfl, Nat.le_of_ble_eq_true rfl⟩ rfl (Nat.le_of_ble_eq_true rfl) (Nat.zero_le _) (Nat.zero_le _) ?_
            have hw := wd_B (σ.1 4) tl [nI 119, nI 97, nI 105, nI 116] fr
            have hwl : (wd (σ.1 4) tl [nI 119, nI 97, nI 105, nI 116] fr).2 ≤ fr + 4 := wd_le (σ.1 4) tl [nI 119, nI 97, nI 105, nI 116] fr
            obtain ⟨wr, ewr⟩ : ∃ z, z = wd (σ.1 4) tl [nI 119, nI 97, nI 105, nI 116] fr := ⟨_, rfl⟩
            rw [← ewr] at hw hwl ⊢
            have hcm : m_cmd (σ.1 4) tl fr (σ.1 5) = if wr.1 = 0 then (0, wr.2, σ.1 5) else cmdF (σ.1 4) tl (rnl (σ.1 4) tl 1 0 wr.2 (σ.1 5)) := by rw [ewr]; exact (if_neg hLc).trans ((if_neg hLg).trans ((if_neg hLs).trans ((if_neg hLj).trans (if_pos hLw))))
            have hno : m_numbersOf (σ.1 4 fr) = nI 1 := by rw [hLw]; decide
            rcases hw with e0 | e1
            · rw [if_pos e0] at hcm
              refine J_topi (y := nI 0) e0 ?_
              refine J_if_eq X 107 (dt tX3_readsCommand 49 rfl) (by decide) (fun _ => ?_) (fun c9 => absurd (rfl) c9)
              refine J_iconst X (nI 0) (dt tX3_readsCommand 52 rfl) (by decide) ?_
              refine J_istore_n X (lv2 := [(2, .int (nI 0)), (1, .int (σ.1 4 fr)), (0, .ref m)]) (dt tX3_readsCommand 53 rfl) rfl rfl rfl ?_
              refine J_iconst X (nI 0) (dt tX3_readsCommand 54 rfl) (by decide) ?_
              refine J_istore_n X (lv2 := [(3, .int (nI 0)), (2, .int (nI 0)), (1, .int (σ.1 4 fr)), (0, .ref m)]) (dt tX3_readsCommand 55 rfl) rfl rfl rfl ?_
              refine J_iload_n X (dt tX3_readsCommand 56 rfl) 0 rfl ?_
              refine J_iload_n X (dt tX3_readsCommand 57 rfl) 2 rfl ?_
              refine S_callS (rest := [.int (nI 0)]) X (dt tX3_readsCommand 58 rfl) (c_numbersOf l D _ (σ.1 4 fr) ) (lw_S q2108 q2109 q86 q2110) okX3_numbersOf rfl ⟨Nat.le_of_ble_eq_true rfl, Nat.le_of_ble_eq_true rfl⟩ rfl (Nat.le_of_ble_eq_true rfl) (Nat.zero_le _) (Nat.zero_le _) ?_
              refine J_topi hno ?_
              refine J_icmp_ge X 135 (dt tX3_readsCommand 59 rfl) (by decide) (fun c9 => absurd c9 ((by decide))) (fun _ => ?_)
              refine J_iload_n X (dt tX3_readsCommand 60 rfl) 1 rfl ?_
              refine J_if_eq X 135 (dt tX3_readsCommand 61 rfl) (by decide) (fun _ => ?_) (fun c9 => absurd (rfl) c9)
              refine J_iload_n X (dt tX3_readsCommand 68 rfl) 1 rfl ?_
              refine J_if_eq X 152 (dt tX3_readsCommand 69 rfl) (by decide) (fun _ => ?_) (fun c9 => absurd (rfl) c9)
              refine J_iconst X (nI 0) (dt tX3_readsCommand 76 rfl) (by decide) ?_
              exact J_zret X rr (dt tX3_readsCommand 77 rfl) (Nat.zero_le _) (Nat.zero_le _) (isB.nar isB_0) (by rw [stN_id]; exact pc_of hcm)
            · rw [if_neg (by rw [e1]; decide)] at hcm
              refine J_topi (y := nI 1) e1 ?_
              refine J_if_eq X 107 (dt tX3_readsCommand 49 rfl) (by decide) (fun c9 => absurd c9 ((by decide))) (fun _ => ?_)
              refine J_iconst X (nI 1) (dt tX3_readsCommand 50 rfl) (by decide) ?_
              refine J_goto X (tgt := 108) (dt tX3_readsCommand 51 rfl) (by decide) ?_
              refine J_istore_n X (lv2 := [(2, .int (nI 1)), (1, .int (σ.1 4 fr)), (0, .ref m)]) (dt tX3_readsCommand 53 rfl) rfl rfl rfl ?_
              refine J_iconst X (nI 0) (dt tX3_readsCommand 54 rfl) (by decide) ?_
              refine J_istore_n X (lv2 := [(3, .int (nI 0)), (2, .int (nI 1)), (1, .int (σ.1 4 fr)), (0, .ref m)]) (dt tX3_readsCommand 55 rfl) rfl rfl rfl ?_
              refine J_sub [3, 2, 1, 0] rfl ?_
              refine J_heap (congrArg (mh h0 m ar) (stN_id σ wr.2)) ?_
              exact key 1 (by decide) hno 1 0 wr.2 (σ.1 5) (by decide) (by omega) hcm
          · skip
            have hcm : m_cmd (σ.1 4) tl fr (σ.1 5) = (0, fr, σ.1 5) := (if_neg hLc).trans ((if_neg hLg).trans ((if_neg hLs).trans ((if_neg hLj).trans (if_neg hLw))))
            have hno : m_numbersOf (σ.1 4 fr) = nI 1 := (if_neg hLc).trans ((if_neg hLs).trans (if_neg hLj))
            refine J_iload_n X (dt tX3_readsCommand 10 rfl) 0 rfl ?_
            refine J_bipush X (nI 99) (dt tX3_readsCommand 11 rfl) (by decide) ?_
            refine J_icmp_ne X 35 (dt tX3_readsCommand 12 rfl) (by decide) (fun _ => ?_) (fun c9 => absurd c9 (hLc))
            refine J_iload_n X (dt tX3_readsCommand 18 rfl) 0 rfl ?_
            refine J_bipush X (nI 103) (dt tX3_readsCommand 19 rfl) (by decide) ?_
            refine J_icmp_ne X 52 (dt tX3_readsCommand 20 rfl) (by decide) (fun _ => ?_) (fun c9 => absurd c9 (hLg))
            refine J_iload_n X (dt tX3_readsCommand 26 rfl) 0 rfl ?_
            refine J_bipush X (nI 115) (dt tX3_readsCommand 27 rfl) (by decide) ?_
            refine J_icmp_ne X 69 (dt tX3_readsCommand 28 rfl) (by decide) (fun _ => ?_) (fun c9 => absurd c9 (hLs))
            refine J_iload_n X (dt tX3_readsCommand 34 rfl) 0 rfl ?_
            refine J_bipush X (nI 106) (dt tX3_readsCommand 35 rfl) (by decide) ?_
            refine J_icmp_ne X 86 (dt tX3_readsCommand 36 rfl) (by decide) (fun _ => ?_) (fun c9 => absurd c9 (hLj))
            refine J_iload_n X (dt tX3_readsCommand 42 rfl) 0 rfl ?_
            refine J_bipush X (nI 119) (dt tX3_readsCommand 43 rfl) (by decide) ?_
            refine J_icmp_ne X 107 (dt tX3_readsCommand 44 rfl) (by decide) (fun _ => ?_) (fun c9 => absurd c9 (hLw))
            refine J_iconst X (nI 0) (dt tX3_readsCommand 52 rfl) (by decide) ?_
            refine J_istore_n X (lv2 := [(2, .int (nI 0)), (1, .int (σ.1 4 fr)), (0, .ref m)]) (dt tX3_readsCommand 53 rfl) rfl rfl rfl ?_
            refine J_iconst X (nI 0) (dt tX3_readsCommand 54 rfl) (by decide) ?_
            refine J_istore_n X (lv2 := [(3, .int (nI 0)), (2, .int (nI 0)), (1, .int (σ.1 4 fr)), (0, .ref m)]) (dt tX3_readsCommand 55 rfl) rfl rfl rfl ?_
            refine J_iload_n X (dt tX3_readsCommand 56 rfl) 0 rfl ?_
            refine J_iload_n X (dt tX3_readsCommand 57 rfl) 2 rfl ?_
            refine S_callS (rest := [.int (nI 0)]) X (dt tX3_readsCommand 58 rfl) (c_numbersOf l D _ (σ.1 4 fr) ) (lw_S q2108 q2109 q86 q2110) okX3_numbersOf rfl ⟨Nat.le_of_ble_eq_true rfl, Nat.le_of_ble_eq_true rfl⟩ rfl (Nat.le_of_ble_eq_true rfl) (Nat.zero_le _) (Nat.zero_le _) ?_
            refine J_topi hno ?_
            refine J_icmp_ge X 135 (dt tX3_readsCommand 59 rfl) (by decide) (fun c9 => absurd c9 ((by decide))) (fun _ => ?_)
            refine J_iload_n X (dt tX3_readsCommand 60 rfl) 1 rfl ?_
            refine J_if_eq X 135 (dt tX3_readsCommand 61 rfl) (by decide) (fun _ => ?_) (fun c9 => absurd (rfl) c9)
            refine J_iload_n X (dt tX3_readsCommand 68 rfl) 1 rfl ?_
            refine J_if_eq X 152 (dt tX3_readsCommand 69 rfl) (by decide) (fun _ => ?_) (fun c9 => absurd (rfl) c9)
            refine J_iconst X (nI 0) (dt tX3_readsCommand 76 rfl) (by decide) ?_
            exact J_zret X rr (dt tX3_readsCommand 77 rfl) (Nat.zero_le _) (Nat.zero_le _) (isB.nar isB_0) (by rw [stN_id]; exact pc_of hcm)
