/-! printed by gen/modelm.py -/
set_option maxRecDepth 100000
theorem q2085 : (Jvm.Cond.constantLong "LeadRacesModel" (226 : Nat) (2 : Int64)) ∈ lw_all := lw_g (lw_at lw_m9 97 rfl) rfl
theorem q2086 : (Jvm.Cond.methodLink "LeadRacesModel" (228 : Nat) ({ cls := "LeadRacesModel", name := "doesAll", desc := "()Z" } : Jvm.MethodName)) ∈ lw_all := lw_g (lw_at lw_m9 98 rfl) rfl
theorem q2088 : (Jvm.Cond.instanceMethod ({ cls := "LeadRacesModel", name := "doesAll", desc := "()Z" } : Jvm.MethodName)) ∈ lw_all := lw_g (lw_at lw_m9 100 rfl) rfl
theorem q2089 : (Jvm.Cond.code ({ cls := "LeadRacesModel", name := "doesAll", desc := "()Z" } : Jvm.MethodName) prog_12_method_57_code (3 : Nat) (Option.some Jvm.ClassFile.FieldType.boolean)) ∈ lw_all := lw_g (lw_at lw_m9 101 rfl) rfl
theorem q2090 : (Jvm.Cond.methodLink "LeadRacesModel" (220 : Nat) ({ cls := "LeadRacesModel", name := "readsCommand", desc := "()Z" } : Jvm.MethodName)) ∈ lw_all := lw_g (lw_at lw_m9 102 rfl) rfl
theorem q2092 : (Jvm.Cond.instanceMethod ({ cls := "LeadRacesModel", name := "readsCommand", desc := "()Z" } : Jvm.MethodName)) ∈ lw_all := lw_g (lw_at lw_m9 104 rfl) rfl
theorem q2093 : (Jvm.Cond.code ({ cls := "LeadRacesModel", name := "readsCommand", desc := "()Z" } : Jvm.MethodName) prog_12_method_55_code (4 : Nat) (Option.some Jvm.ClassFile.FieldType.boolean)) ∈ lw_all := lw_g (lw_at lw_m9 105 rfl) rfl
theorem q2117 : (Jvm.Cond.methodLink "LeadRacesModel" (223 : Nat) ({ cls := "LeadRacesModel", name := "doCommand", desc := "()I" } : Jvm.MethodName)) ∈ lw_all := lw_g (lw_at lw_m9 129 rfl) rfl
theorem q2119 : (Jvm.Cond.instanceMethod ({ cls := "LeadRacesModel", name := "doCommand", desc := "()I" } : Jvm.MethodName)) ∈ lw_all := lw_g (lw_at lw_m9 131 rfl) rfl
theorem q2120 : (Jvm.Cond.code ({ cls := "LeadRacesModel", name := "doCommand", desc := "()I" } : Jvm.MethodName) prog_12_method_56_code (1 : Nat) (Option.some Jvm.ClassFile.FieldType.int)) ∈ lw_all := lw_g (lw_at lw_m9 132 rfl) rfl
theorem q2121 : (Jvm.Cond.methodLink "LeadRacesModel" (231 : Nat) ({ cls := "LeadRacesModel", name := "giveBack", desc := "()V" } : Jvm.MethodName)) ∈ lw_all := lw_g (lw_at lw_m9 133 rfl) rfl
theorem q2123 : (Jvm.Cond.instanceMethod ({ cls := "LeadRacesModel", name := "giveBack", desc := "()V" } : Jvm.MethodName)) ∈ lw_all := lw_g (lw_at lw_m9 135 rfl) rfl
theorem q2124 : (Jvm.Cond.code ({ cls := "LeadRacesModel", name := "giveBack", desc := "()V" } : Jvm.MethodName) prog_12_method_5_code (2 : Nat) (Option.none : Option Jvm.ClassFile.FieldType)) ∈ lw_all := lw_g (lw_at lw_m9 136 rfl) rfl
/-! the reference does a text's commands -/
def m_doc (σ : MS) (fr : Nat) : Int32 × MS := if σ.1 4 fr = nI 99 then m_come σ (σ.1 5 0) (σ.1 5 1) (σ.1 5 2) else if σ.1 4 fr = nI 103 then m_go σ (σ.1 5 0) else if σ.1 4 fr = nI 106 then m_jump σ (σ.1 5 0) (σ.1 5 1) else if σ.1 4 fr = nI 115 then m_speed σ (σ.1 5 0) (σ.1 5 1) else m_pause σ (σ.1 5 0)
theorem pd_of {h0 : PH} {m : Nat} {ar : Nat → Nat} {q r : Int32 × MS} (e : q = r) : PM h0 m ar (some (.int q.1)) q.2 (some (.int r.1)) (mh h0 m ar r.2) := by
  subst e
  exact ⟨rfl, rfl⟩
abbrev cX3_doCommand : ByteArray := prog_12_method_56_code
def yX3_doCommand : MethodName := ⟨RX3, "doCommand", "()I"⟩
theorem tX3_doCommand : dtab cX3_doCommand [(0, .aload_n 0, 1, 1), (1, .getfield 22, 3, 4), (4, .aload_n 0, 1, 5), (5, .getfield 188, 3, 8), (8, .iaload, 1, 9), (9, .lookupswitch 111 #[(99, 43), (103, 66), (106, 94), (115, 77)], 43, 52), (52, .aload_n 0, 1, 53), (53, .aload_n 0, 1, 54), (54, .getfield 25, 3, 57), (57, .iconst 0, 1, 58), (58, .iaload, 1, 59), (59, .aload_n 0, 1, 60), (60, .getfield 25, 3, 63), (63, .iconst 1, 1, 64), (64, .iaload, 1, 65), (65, .aload_n 0, 1, 66), (66, .getfield 25, 3, 69), (69, .iconst 2, 1, 70), (70, .iaload, 1, 71), (71, .invokevirtual 109, 3, 74), (74, .ireturn, 1, 75), (75, .aload_n 0, 1, 76), (76, .aload_n 0, 1, 77), (77, .getfield 25, 3, 80), (80, .iconst 0, 1, 81), (81, .iaload, 1, 82), (82, .invokevirtual 117, 3, 85), (85, .ireturn, 1, 86), (86, .aload_n 0, 1, 87), (87, .aload_n 0, 1, 88), (88, .getfield 25, 3, 91), (91, .iconst 0, 1, 92), (92, .iaload, 1, 93), (93, .aload_n 0, 1, 94), (94, .getfield 25, 3, 97), (97, .iconst 1, 1, 98), (98, .iaload, 1, 99), (99, .invokevirtual 120, 3, 102), (102, .ireturn, 1, 103), (103, .aload_n 0, 1, 104), (104, .aload_n 0, 1, 105), (105, .getfield 25, 3, 108), (108, .iconst 0, 1, 109), (109, .iaload, 1, 110), (110, .aload_n 0, 1, 111), (111, .getfield 25, 3, 114), (114, .iconst 1, 1, 115), (115, .iaload, 1, 116), (116, .invokevirtual 123, 3, 119), (119, .ireturn, 1, 120), (120, .aload_n 0, 1, 121), (121, .aload_n 0, 1, 122), (122, .getfield 25, 3, 125), (125, .iconst 0, 1, 126), (126, .iaload, 1, 127), (127, .invokevirtual 126, 3, 130), (130, .ireturn, 1, 131)] := by unfold dtab; decide +kernel
theorem okX3_doCommand : okY yX3_doCommand 0 := by decide +kernel
set_option maxHeartbeats 4000000 in
theorem c_doCommand (l : Launch) (D : va_G) {h0 : PH} {m : Nat} {ar : Nat → Nat} (hd : md m ar) (σ : MS)  (hW : WF σ) (fr : Nat) (hfr : σ.2 4 = nI fr) (hft : fr < 60) : Ct l D yX3_doCommand cX3_doCommand 1 (some .int) (rmM 5 123) [.ref m] (mh h0 m ar σ) (PM h0 m ar (some (.int ((m_doc σ fr).1))) ((m_doc σ fr).2)) := by
  refine Ct.of (by decide) rfl (fun Γ X rr hmn => ?_)
  have X : Cx l D cX3_doCommand RX3 1 (rmM 5 123) Γ := X
  show J Γ (mh h0 m ar σ) 0 0 0 [(0, .ref m)] []
  refine J_aload_n X (dt tX3_doCommand 0 rfl) 0 rfl ?_
  refine M_get_text X (dt tX3_doCommand 1 rfl) ?_
  refine J_aload_n X (dt tX3_doCommand 2 rfl) 0 rfl ?_
  refine M_get_from X (dt tX3_doCommand 3 rfl) ?_
  refine J_topi hfr ?_
  refine M_ald_text X hd (dt tX3_doCommand 4 rfl) (by omega) ?_
  by_cases h99 : σ.1 4 fr = nI 99
  · refine J_lookup X 52 (dt tX3_doCommand 5 rfl) (by decide) (off := 43) (by rw [h99]; decide) (by decide) ?_
    refine J_aload_n X (dt tX3_doCommand 6 rfl) 0 rfl ?_
    refine J_aload_n X (dt tX3_doCommand 7 rfl) 0 rfl ?_
    refine M_get_number X (dt tX3_doCommand 8 rfl) ?_
    refine J_iconst X (nI 0) (dt tX3_doCommand 9 rfl) (by decide) ?_
    refine M_ald_number X hd (dt tX3_doCommand 10 rfl) (by decide) ?_
    refine J_aload_n X (dt tX3_doCommand 11 rfl) 0 rfl ?_
    refine M_get_number X (dt tX3_doCommand 12 rfl) ?_
    refine J_iconst X (nI 1) (dt tX3_doCommand 13 rfl) (by decide) ?_
    refine M_ald_number X hd (dt tX3_doCommand 14 rfl) (by decide) ?_
    refine J_aload_n X (dt tX3_doCommand 15 rfl) 0 rfl ?_
    refine M_get_number X (dt tX3_doCommand 16 rfl) ?_
    refine J_iconst X (nI 2) (dt tX3_doCommand 17 rfl) (by decide) ?_
    refine M_ald_number X hd (dt tX3_doCommand 18 rfl) (by decide) ?_
    refine M_callV (rest := []) X (dt tX3_doCommand 19 rfl) (c_doCome l D hd σ (σ.1 5 0) (σ.1 5 1) (σ.1 5 2) hW) (lw_V q1885 q1887 qs37 q86 q1888) okX3_doCome rfl rfl ⟨Nat.le_of_ble_eq_true rfl, Nat.le_of_ble_eq_true rfl⟩ rfl (Nat.le_of_ble_eq_true rfl) (Nat.zero_le _) (Nat.zero_le _) ?_
    exact J_iret X rr (dt tX3_doCommand 20 rfl) (Nat.zero_le _) (Nat.zero_le _) (pd_of (by unfold m_doc; exact if_pos h99))
  · skip
    by_cases h103 : σ.1 4 fr = nI 103
    · refine J_lookup X 75 (dt tX3_doCommand 5 rfl) (by decide) (off := 66) (by rw [h103]; decide) (by decide) ?_
      refine J_aload_n X (dt tX3_doCommand 21 rfl) 0 rfl ?_
      refine J_aload_n X (dt tX3_doCommand 22 rfl) 0 rfl ?_
      refine M_get_number X (dt tX3_doCommand 23 rfl) ?_
      refine J_iconst X (nI 0) (dt tX3_doCommand 24 rfl) (by decide) ?_
      refine M_ald_number X hd (dt tX3_doCommand 25 rfl) (by decide) ?_
      refine M_callV (rest := []) X (dt tX3_doCommand 26 rfl) (c_doGo l D hd σ (σ.1 5 0) hW) (lw_V q1953 q1955 qs49 q86 q1956) okX3_doGo rfl rfl ⟨Nat.le_of_ble_eq_true rfl, Nat.le_of_ble_eq_true rfl⟩ rfl (Nat.le_of_ble_eq_true rfl) (Nat.zero_le _) (Nat.zero_le _) ?_
      exact J_iret X rr (dt tX3_doCommand 27 rfl) (Nat.zero_le _) (Nat.zero_le _) (pd_of (by unfold m_doc; exact (if_neg h99).trans (if_pos h103)))
    · skip
      by_cases h106 : σ.1 4 fr = nI 106
      · refine J_lookup X 103 (dt tX3_doCommand 5 rfl) (by decide) (off := 94) (by rw [h106]; decide) (by decide) ?_
        refine J_aload_n X (dt tX3_doCommand 39 rfl) 0 rfl ?_
        refine J_aload_n X (dt tX3_doCommand 40 rfl) 0 rfl ?_
        refine M_get_number X (dt tX3_doCommand 41 rfl) ?_
        refine J_iconst X (nI 0) (dt tX3_doCommand 42 rfl) (by decide) ?_
        refine M_ald_number X hd (dt tX3_doCommand 43 rfl) (by decide) ?_
        refine J_aload_n X (dt tX3_doCommand 44 rfl) 0 rfl ?_
        refine M_get_number X (dt tX3_doCommand 45 rfl) ?_
        refine J_iconst X (nI 1) (dt tX3_doCommand 46 rfl) (by decide) ?_
        refine M_ald_number X hd (dt tX3_doCommand 47 rfl) (by decide) ?_
        refine M_callV (rest := []) X (dt tX3_doCommand 48 rfl) (c_doJump l D hd σ (σ.1 5 0) (σ.1 5 1) hW) (lw_V q1973 q1975 qs52 q86 q1976) okX3_doJump rfl rfl ⟨Nat.le_of_ble_eq_true rfl, Nat.le_of_ble_eq_true rfl⟩ rfl (Nat.le_of_ble_eq_true rfl) (Nat.zero_le _) (Nat.zero_le _) ?_
        exact J_iret X rr (dt tX3_doCommand 49 rfl) (Nat.zero_le _) (Nat.zero_le _) (pd_of (by unfold m_doc; exact (if_neg h99).trans ((if_neg h103).trans (if_pos h106))))
      · skip
        by_cases h115 : σ.1 4 fr = nI 115
        · refine J_lookup X 86 (dt tX3_doCommand 5 rfl) (by decide) (off := 77) (by rw [h115]; decide) (by decide) ?_
          refine J_aload_n X (dt tX3_doCommand 28 rfl) 0 rfl ?_
          refine J_aload_n X (dt tX3_doCommand 29 rfl) 0 rfl ?_
          refine M_get_number X (dt tX3_doCommand 30 rfl) ?_
          refine J_iconst X (nI 0) (dt tX3_doCommand 31 rfl) (by decide) ?_
          refine M_ald_number X hd (dt tX3_doCommand 32 rfl) (by decide) ?_
          refine J_aload_n X (dt tX3_doCommand 33 rfl) 0 rfl ?_
          refine M_get_number X (dt tX3_doCommand 34 rfl) ?_
          refine J_iconst X (nI 1) (dt tX3_doCommand 35 rfl) (by decide) ?_
          refine M_ald_number X hd (dt tX3_doCommand 36 rfl) (by decide) ?_
          refine M_callV (rest := []) X (dt tX3_doCommand 37 rfl) (c_doSpeed l D hd σ (σ.1 5 0) (σ.1 5 1) hW) (lw_V q1965 q1967 qs51 q86 q1968) okX3_doSpeed rfl rfl ⟨Nat.le_of_ble_eq_true rfl, Nat.le_of_ble_eq_true rfl⟩ rfl (Nat.le_of_ble_eq_true rfl) (Nat.zero_le _) (Nat.zero_le _) ?_
          exact J_iret X rr (dt tX3_doCommand 38 rfl) (Nat.zero_le _) (Nat.zero_le _) (pd_of (by unfold m_doc; exact (if_neg h99).trans ((if_neg h103).trans ((if_neg h106).trans (if_pos h115)))))
        · skip
          refine J_lookup X 120 (dt tX3_doCommand 5 rfl) (by decide) (off := 111) ((lv_osw h99 (by decide)).trans ((lv_osw h103 (by decide)).trans ((lv_osw h106 (by decide)).trans ((lv_osw h115 (by decide)).trans (rfl))))) (by decide) ?_
          refine J_aload_n X (dt tX3_doCommand 50 rfl) 0 rfl ?_
          refine J_aload_n X (dt tX3_doCommand 51 rfl) 0 rfl ?_
          refine M_get_number X (dt tX3_doCommand 52 rfl) ?_
          refine J_iconst X (nI 0) (dt tX3_doCommand 53 rfl) (by decide) ?_
          refine M_ald_number X hd (dt tX3_doCommand 54 rfl) (by decide) ?_
          refine M_callV (rest := []) X (dt tX3_doCommand 55 rfl) (c_doPause l D hd σ (σ.1 5 0) hW) (lw_V q1986 q1988 qs53 q86 q1989) okX3_doPause rfl rfl ⟨Nat.le_of_ble_eq_true rfl, Nat.le_of_ble_eq_true rfl⟩ rfl (Nat.le_of_ble_eq_true rfl) (Nat.zero_le _) (Nat.zero_le _) ?_
          exact J_iret X rr (dt tX3_doCommand 56 rfl) (Nat.zero_le _) (Nat.zero_le _) (pd_of (by unfold m_doc; exact (if_neg h99).trans ((if_neg h103).trans ((if_neg h106).trans (if_neg h115)))))
theorem m_doc_v (σ : MS) (fr : Nat) : (m_doc σ fr).2.2 = σ.2 := by
  unfold m_doc
  split
  · exact m_come_v _ _ _ _
  · split
    · exact m_go_v _ _
    · split
      · exact m_jump_v _ _ _
      · split
        · exact m_speed_v _ _ _
        · exact m_pause_v _ _
theorem WF.come {σ : MS} (h : WF σ) (x p s : Int32) : WF (m_come σ x p s).2 := by
  unfold m_come
  cases e : ln x with
  | none => exact h
  | some j =>
    obtain ⟨hj, -⟩ := ln_some e
    dsimp only
    unfold m_come1
    split
    · exact h
    · split
      · exact h
      · split
        · exact (h.comeA hj p s).forT hj
        · exact h
theorem WF.go {σ : MS} (h : WF σ) (x : Int32) : WF (m_go σ x).2 := by
  unfold m_go
  cases e : ln x with
  | none => exact h
  | some j =>
    obtain ⟨hj, -⟩ := ln_some e
    dsimp only
    unfold m_go1
    split
    · exact h
    · exact (h.low (fun i hi => pk_un (by omega))).forT hj
theorem WF.speed {σ : MS} (h : WF σ) (x s : Int32) : WF (m_speed σ x s).2 := by
  unfold m_speed
  cases e : ln x with
  | none => exact h
  | some j =>
    obtain ⟨hj, -⟩ := ln_some e
    dsimp only
    unfold m_speed1
    split
    · exact h
    · split
      · exact h
      · exact (h.low (fun i hi => pk_un (by omega))).forT hj
theorem WF.jump {σ : MS} (h : WF σ) (x y : Int32) : WF (m_jump σ x y).2 := by
  unfold m_jump
  cases e : ln x with
  | none => exact h
  | some j =>
    obtain ⟨hj, -⟩ := ln_some e
    dsimp only
    unfold m_jump1
    split
    · exact h
    · split
      · exact h
      · split
        · exact h
        · exact (h.low (fun i hi => pk_un (by omega))).forT hj
theorem WF.pause {σ : MS} (h : WF σ) (x : Int32) : WF (m_pause σ x).2 := by
  unfold m_pause
  split
  · exact h
  · split
    · exact h.it _
    · exact h
theorem WF.doc {σ : MS} (h : WF σ) (fr : Nat) : WF (m_doc σ fr).2 := by
  unfold m_doc
  split
  · exact h.come _ _ _
  · split
    · exact h.go _
    · split
      · exact h.jump _ _
      · split
        · exact h.speed _ _
        · exact h.pause _
theorem wd_ge (tx : Nat → Int32) (tl : Nat) (cs : List Int32) : ∀ p, p ≤ (wd tx tl cs p).2 := by
  induction cs with
  | nil => intro p; exact Nat.le_refl _
  | cons c cs ih =>
    intro p
    rw [wd]
    split
    · have := ih (p + 1)
      omega
    · exact Nat.le_refl _
theorem rnl_ge (tx : Nat → Int32) (tl : Nat) : ∀ n k p f, p ≤ (rnl tx tl n k p f).2.1
  | 0, _, p, _ => Nat.le_refl p
  | n + 1, k, p, f => by
    have h1 := (nmb_le tx tl p).1
    rw [rnl]
    split
    · exact h1
    · exact Nat.le_trans h1 (rnl_ge tx tl n (k + 1) _ _)
theorem cmdF_b {tx : Nat → Int32} {tl : Nat} {r : Int32 × Nat × (Nat → Int32)} (h : ¬ (cmdF tx tl r).1 = 0) : r.2.1 < (cmdF tx tl r).2.1 ∧ (cmdF tx tl r).2.1 ≤ tl := by
  unfold cmdF at *
  by_cases h0 : r.1 = 0
  · rw [if_pos h0] at h; exact absurd h0 h
  · rw [if_neg h0] at *
    dsimp only at *
    unfold tkR tkP at *
    by_cases h1 : r.2.1 < tl
    · rw [if_pos h1] at *
      by_cases h2 : tx r.2.1 = nI 59
      · rw [if_pos h2] at *
        omega
      · rw [if_neg h2] at h; exact absurd rfl h
    · rw [if_neg h1] at h; exact absurd rfl h
theorem cmdW_b {tx : Nat → Int32} {tl fr n : Nat} {f : Nat → Int32} {cs : List Int32} (h : ¬ (cmdW tx tl fr f cs n).1 = 0) : fr < (cmdW tx tl fr f cs n).2.1 ∧ (cmdW tx tl fr f cs n).2.1 ≤ tl := by
  unfold cmdW at *
  by_cases h0 : (wd tx tl cs fr).1 = 0
  · rw [if_pos h0] at h; exact absurd rfl h
  · rw [if_neg h0] at *
    have h1 := cmdF_b h
    have h2 := wd_ge tx tl cs fr
    have h3 := rnl_ge tx tl n 0 (wd tx tl cs fr).2 f
    omega
theorem m_cmd_b {tx : Nat → Int32} {tl fr : Nat} {f : Nat → Int32} (h : ¬ (m_cmd tx tl fr f).1 = 0) : fr < (m_cmd tx tl fr f).2.1 ∧ (m_cmd tx tl fr f).2.1 ≤ tl := by
  have key : ∀ r, m_cmd tx tl fr f = r → ¬ r.1 = 0 → fr < r.2.1 ∧ r.2.1 ≤ tl := by
    intro r e hr
    unfold m_cmd at e
    split at e
    · subst e; exact cmdW_b hr
    · split at e
      · subst e; exact cmdW_b hr
      · split at e
        · subst e; exact cmdW_b hr
        · split at e
          · subst e; exact cmdW_b hr
          · split at e
            · subst e; exact cmdW_b hr
            · subst e; exact absurd rfl hr
  exact key _ rfl h
def m_dS (τ : MS) : MS := sV (sV τ 7 (nI 1)) 8 (-10000004)
def m_dR (τ : MS) (tl fr : Nat) : Int32 × Nat × (Nat → Int32) := m_cmd (τ.1 4) tl fr (τ.1 5)
def m_dT (τ : MS) (tl fr : Nat) : MS := stN (m_dS τ) (m_dR τ tl fr).2.2 (m_dR τ tl fr).2.1
def m_dQ (τ : MS) (tl fr : Nat) : Int32 × MS := m_doc (m_dT τ tl fr) fr
def m_dN (τ : MS) (tl fr : Nat) : MS := sV (sV (m_dQ τ tl fr).2 6 ((m_dQ τ tl fr).2.2 6 + nI 1)) 4 (nI (m_dR τ tl fr).2.1)
def m_da (tl : Nat) : Nat → Nat → MS → Int32 × MS
  | 0, _, τ => (1, τ)
  | n + 1, fr, τ => if fr < tl then (if (m_dR τ tl fr).1 = 0 then (0, m_dT τ tl fr) else if -10000001 < (m_dQ τ tl fr).1 then m_da tl n (m_dR τ tl fr).2.1 (m_dN τ tl fr) else (0, sV (sV (m_dQ τ tl fr).2 7 (nI 2)) 8 (m_dQ τ tl fr).1)) else (1, τ)
theorem WF.sV {σ : MS} (h : WF σ) (j : Nat) (x : Int32) : WF (sV σ j x) := h.of0 rfl
theorem WF.dT {τ : MS} (h : WF τ) (tl fr : Nat) : WF (m_dT τ tl fr) := h.of0 rfl
def m_all (σ : MS) (tl : Nat) : Int32 × MS := m_da tl (tl + 1) 0 (sV (sV σ 4 (nI 0)) 6 (nI 0))
abbrev cX3_doesAll : ByteArray := prog_12_method_57_code
def yX3_doesAll : MethodName := ⟨RX3, "doesAll", "()Z"⟩
theorem tX3_doesAll : dtab cX3_doesAll [(0, .aload_n 0, 1, 1), (1, .iconst 0, 1, 2), (2, .putfield 188, 3, 5), (5, .aload_n 0, 1, 6), (6, .iconst 0, 1, 7), (7, .putfield 211, 3, 10), (10, .aload_n 0, 1, 11), (11, .getfield 188, 3, 14), (14, .aload_n 0, 1, 15), (15, .getfield 143, 3, 18), (18, .if_icmp .ge 69, 3, 21), (21, .aload_n 0, 1, 22), (22, .iconst 1, 1, 23), (23, .putfield 214, 3, 26), (26, .aload_n 0, 1, 27), (27, .ldc 131, 2, 29), (29, .putfield 217, 3, 32), (32, .aload_n 0, 1, 33), (33, .invokevirtual 220, 3, 36), (36, .ifCond .ne 5, 3, 39), (39, .iconst 0, 1, 40), (40, .ireturn, 1, 41), (41, .aload_n 0, 1, 42), (42, .getfield 176, 3, 45), (45, .istore_n 1, 1, 46), (46, .aload_n 0, 1, 47), (47, .invokevirtual 223, 3, 50), (50, .istore_n 2, 1, 51), (51, .iload_n 2, 1, 52), (52, .ldc 28, 2, 54), (54, .if_icmp .gt 15, 3, 57), (57, .aload_n 0, 1, 58), (58, .iconst 2, 1, 59), (59, .putfield 214, 3, 62), (62, .aload_n 0, 1, 63), (63, .iload_n 2, 1, 64), (64, .putfield 217, 3, 67), (67, .iconst 0, 1, 68), (68, .ireturn, 1, 69), (69, .aload_n 0, 1, 70), (70, .dup, 1, 71), (71, .getfield 211, 3, 74), (74, .iconst 1, 1, 75), (75, .iadd, 1, 76), (76, .putfield 211, 3, 79), (79, .aload_n 0, 1, 80), (80, .iload_n 1, 1, 81), (81, .putfield 188, 3, 84), (84, .goto (-74), 3, 87), (87, .iconst 1, 1, 88), (88, .ireturn, 1, 89)] := by unfold dtab; decide +kernel
theorem okX3_doesAll : okY yX3_doesAll 0 := by decide +kernel
set_option maxHeartbeats 4000000 in
theorem c_doesAll (l : Launch) (D : va_G) {h0 : PH} {m : Nat} {ar : Nat → Nat} (hd : md m ar) (σ : MS)  (hW : WF σ) (tl : Nat) (htl : σ.2 3 = nI tl) (tl60 : tl ≤ 60) : Ct l D yX3_doesAll cX3_doesAll 3 (some .boolean) (rmM 6 143) [.ref m] (mh h0 m ar σ) (PM h0 m ar (some (.int ((m_all σ tl).1))) ((m_all σ tl).2)) := by
  refine Ct.of (by decide) rfl (fun Γ X rr hmn => ?_)
  have X : Cx l D cX3_doesAll RX3 3 (rmM 6 143) Γ := X
  show J Γ (mh h0 m ar σ) 0 0 0 [(0, .ref m)] []
  refine J_aload_n X (dt tX3_doesAll 0 rfl) 0 rfl ?_
  refine J_iconst X (nI 0) (dt tX3_doesAll 1 rfl) (by decide) ?_
  refine M_put_from X (dt tX3_doesAll 2 rfl) ?_
  refine J_aload_n X (dt tX3_doesAll 3 rfl) 0 rfl ?_
  refine J_iconst X (nI 0) (dt tX3_doesAll 4 rfl) (by decide) ?_
  refine M_put_done X (dt tX3_doesAll 5 rfl) ?_
  have key : ∀ (n fr : Nat) (τ : MS), tl < fr + n → fr ≤ tl → τ.2 3 = nI tl → τ.2 4 = nI fr → WF τ → m_all σ tl = m_da tl n fr τ → J Γ (mh h0 m ar τ) 0 0 10 [(0, .ref m)] [] := by
    intro n
    induction n with
    | zero => intro fr τ h1 h2; exact absurd h1 (by omega)
    | succ n ih =>
      intro fr τ h1 h2 htl hfr hW hw
      by_cases hft : fr < tl
      · rw [m_da, if_pos hft] at hw
        refine J_aload_n X (dt tX3_doesAll 6 rfl) 0 rfl ?_
        refine M_get_from X (dt tX3_doesAll 7 rfl) ?_
        refine J_topi hfr ?_
        refine J_aload_n X (dt tX3_doesAll 8 rfl) 0 rfl ?_
        refine M_get_textLong X (dt tX3_doesAll 9 rfl) ?_
        refine J_topi htl ?_
        refine J_icmp_ge X 87 (dt tX3_doesAll 10 rfl) (by decide) (fun c9 => absurd c9 (nI_ge hft (by omega))) (fun _ => ?_)
        refine J_aload_n X (dt tX3_doesAll 11 rfl) 0 rfl ?_
        refine J_iconst X (nI 1) (dt tX3_doesAll 12 rfl) (by decide) ?_
        refine M_put_why X (dt tX3_doesAll 13 rfl) ?_
        refine J_aload_n X (dt tX3_doesAll 14 rfl) 0 rfl ?_
        refine J_ldc X (dt tX3_doesAll 15 rfl) q2000 ?_
        refine M_put_cause X (dt tX3_doesAll 16 rfl) ?_
        refine J_aload_n X (dt tX3_doesAll 17 rfl) 0 rfl ?_
        refine M_callV (rest := []) X (dt tX3_doesAll 18 rfl) (c_readsCommand l D hd (m_dS τ) tl fr htl tl60 hfr hft) (lw_V q2090 q2092 qs62 q86 q2093) okX3_readsCommand rfl rfl ⟨Nat.le_of_ble_eq_true rfl, Nat.le_of_ble_eq_true rfl⟩ rfl (Nat.le_of_ble_eq_true rfl) (Nat.zero_le _) (Nat.zero_le _) ?_
        show J Γ (mh h0 m ar (m_dT τ tl fr)) 0 0 36 [(0, .ref m)] [.int ((m_dR τ tl fr).1)]
        by_cases hz0 : (m_dR τ tl fr).1 = 0
        · rw [if_pos hz0] at hw
          refine J_if_ne X 41 (dt tX3_doesAll 19 rfl) (by decide) (fun c9 => absurd (hz0) c9) (fun _ => ?_)
          refine J_iconst X (nI 0) (dt tX3_doesAll 20 rfl) (by decide) ?_
          exact J_zret X rr (dt tX3_doesAll 21 rfl) (Nat.zero_le _) (Nat.zero_le _) (isB.nar isB_0) (pm_of hw)
        · rw [if_neg hz0] at hw
          have hb : fr < (m_dR τ tl fr).2.1 ∧ (m_dR τ tl fr).2.1 ≤ tl := m_cmd_b hz0
          refine J_if_ne X 41 (dt tX3_doesAll 19 rfl) (by decide) (fun _ => ?_) (fun c9 => absurd c9 (hz0))
          refine J_aload_n X (dt tX3_doesAll 22 rfl) 0 rfl ?_
          refine M_get_at X (dt tX3_doesAll 23 rfl) ?_
          refine J_topi rfl ?_
          refine J_istore_n X (lv2 := [(1, .int (nI ((m_dR τ tl fr).2.1))), (0, .ref m)]) (dt tX3_doesAll 24 rfl) rfl rfl rfl ?_
          refine J_aload_n X (dt tX3_doesAll 25 rfl) 1 rfl ?_
          refine M_callV (rest := []) X (dt tX3_doesAll 26 rfl) (c_doCommand l D hd (m_dT τ tl fr) (hW.dT tl fr) fr hfr (by omega)) (lw_V q2117 q2119 qs66 q86 q2120) okX3_doCommand rfl rfl ⟨Nat.le_of_ble_eq_true rfl, Nat.le_of_ble_eq_true rfl⟩ rfl (Nat.le_of_ble_eq_true rfl) (Nat.zero_le _) (Nat.zero_le _) ?_
          show J Γ (mh h0 m ar ((m_dQ τ tl fr).2)) 0 0 50 [(1, .int (nI ((m_dR τ tl fr).2.1))), (0, .ref m)] [.int ((m_dQ τ tl fr).1)]
          by_cases hq : -10000001 < (m_dQ τ tl fr).1
          · rw [if_pos hq] at hw
            refine J_istore_n X (lv2 := [(2, .int ((m_dQ τ tl fr).1)), (1, .int (nI ((m_dR τ tl fr).2.1))), (0, .ref m)]) (dt tX3_doesAll 27 rfl) rfl rfl rfl ?_
            refine J_iload_n X (dt tX3_doesAll 28 rfl) 0 rfl ?_
            refine J_ldc X (dt tX3_doesAll 29 rfl) q1903 ?_
            refine J_icmp_gt X 69 (dt tX3_doesAll 30 rfl) (by decide) (fun _ => ?_) (fun c9 => absurd (hq) c9)
            refine J_aload_n X (dt tX3_doesAll 39 rfl) 2 rfl ?_
            refine J_dup X (dt tX3_doesAll 40 rfl) rfl ?_
            refine M_get_done X (dt tX3_doesAll 41 rfl) ?_
            refine J_iconst X (nI 1) (dt tX3_doesAll 42 rfl) (by decide) ?_
            refine J_iadd X (dt tX3_doesAll 43 rfl) ?_
            refine M_put_done X (dt tX3_doesAll 44 rfl) ?_
            refine J_aload_n X (dt tX3_doesAll 45 rfl) 2 rfl ?_
            refine J_iload_n X (dt tX3_doesAll 46 rfl) 1 rfl ?_
            refine M_put_from X (dt tX3_doesAll 47 rfl) ?_
            refine J_goto X (tgt := 10) (dt tX3_doesAll 48 rfl) (by decide) ?_
            refine J_sub [2] rfl ?_
            have hv9 : (m_dN τ tl fr).2 3 = nI tl := (congrFun (m_doc_v (m_dT τ tl fr) fr) 3).trans htl
            exact ih (m_dR τ tl fr).2.1 (m_dN τ tl fr) (by omega) hb.2 hv9 rfl ((((hW.dT tl fr).doc fr).sV _ _).sV _ _) hw
          · rw [if_neg hq] at hw
            refine J_istore_n X (lv2 := [(2, .int ((m_dQ τ tl fr).1)), (1, .int (nI ((m_dR τ tl fr).2.1))), (0, .ref m)]) (dt tX3_doesAll 27 rfl) rfl rfl rfl ?_
            refine J_iload_n X (dt tX3_doesAll 28 rfl) 0 rfl ?_
            refine J_ldc X (dt tX3_doesAll 29 rfl) q1903 ?_
            refine J_icmp_gt X 69 (dt tX3_doesAll 30 rfl) (by decide) (fun c9 => absurd c9 (hq)) (fun _ => ?_)
            refine J_aload_n X (dt tX3_doesAll 31 rfl) 2 rfl ?_
            refine J_iconst X (nI 2) (dt tX3_doesAll 32 rfl) (by decide) ?_
            refine M_put_why X (dt tX3_doesAll 33 rfl) ?_
            refine J_aload_n X (dt tX3_doesAll 34 rfl) 2 rfl ?_
            refine J_iload_n X (dt tX3_doesAll 35 rfl) 0 rfl ?_
            refine M_put_cause X (dt tX3_doesAll 36 rfl) ?_
            refine J_iconst X (nI 0) (dt tX3_doesAll 37 rfl) (by decide) ?_
            exact J_zret X rr (dt tX3_doesAll 38 rfl) (Nat.zero_le _) (Nat.zero_le _) (isB.nar isB_0) (pm_of hw)
      · rw [m_da, if_neg hft] at hw
        refine J_aload_n X (dt tX3_doesAll 6 rfl) 0 rfl ?_
        refine M_get_from X (dt tX3_doesAll 7 rfl) ?_
        refine J_topi hfr ?_
        refine J_aload_n X (dt tX3_doesAll 8 rfl) 0 rfl ?_
        refine M_get_textLong X (dt tX3_doesAll 9 rfl) ?_
        refine J_topi htl ?_
        refine J_icmp_ge X 87 (dt tX3_doesAll 10 rfl) (by decide) (fun _ => ?_) (fun c9 => absurd (nI_le (by omega) (by omega)) c9)
        refine J_iconst X (nI 1) (dt tX3_doesAll 49 rfl) (by decide) ?_
        exact J_zret X rr (dt tX3_doesAll 50 rfl) (Nat.zero_le _) (Nat.zero_le _) (isB.nar isB_1) (pm_of hw)
  exact key (tl + 1) 0 _ (by omega) (Nat.zero_le _) htl rfl ((hW.sV _ _).sV _ _) rfl
theorem m_da_B (tl : Nat) : ∀ n fr τ, isB (m_da tl n fr τ).1
  | 0, _, _ => isB_1
  | n + 1, fr, τ => by
    rw [m_da]
    split
    · split
      · exact isB_0
      · split
        · exact m_da_B tl n _ _
        · exact isB_0
    · exact isB_1
theorem m_da_hl (tl : Nat) (j : Nat) (hj : j = 0 ∨ j = 3) : ∀ n fr τ, (m_da tl n fr τ).2.2 j = τ.2 j
  | 0, _, _ => rfl
  | n + 1, fr, τ => by
    have hT : (m_dT τ tl fr).2 j = τ.2 j := by rcases hj with rfl | rfl <;> rfl
    have hQ : (m_dQ τ tl fr).2.2 j = τ.2 j := (congrFun (m_doc_v (m_dT τ tl fr) fr) j).trans hT
    have hN : (m_dN τ tl fr).2 j = τ.2 j := by rcases hj with rfl | rfl <;> exact hQ
    rw [m_da]
    split
    · split
      · exact hT
      · split
        · exact (m_da_hl tl j hj n _ _).trans hN
        · rcases hj with rfl | rfl <;> exact hQ
    · rfl
theorem m_all_hl (σ : MS) (tl j : Nat) (hj : j = 0 ∨ j = 3) : (m_all σ tl).2.2 j = σ.2 j := by
  refine (m_da_hl tl j hj (tl + 1) 0 _).trans ?_
  rcases hj with rfl | rfl <;> rfl
def m_fault (σ : MS) (tl : Nat) (x : Int32) : Int32 × MS := if m_in x.toInt64 0 2 = 0 then (-10000001, σ) else (if (m_all (m_keep σ) tl).1 = 0 then (if x = 0 then (m_all (m_keep σ) tl).2.2 4 else if x = nI 1 then (m_all (m_keep σ) tl).2.2 7 else (m_all (m_keep σ) tl).2.2 8) else -10000004, m_give (m_all (m_keep σ) tl).2)
def m_play (σ : MS) (tl hl : Nat) : Int32 × MS := if (m_all (m_keep σ) tl).1 = 0 then (-10000002, m_give (m_all (m_keep σ) tl).2) else ((m_all (m_keep σ) tl).2.2 6, m_chT (m_all (m_keep σ) tl).2 hl ((m_all (m_keep σ) tl).2.2 6))
abbrev cX3_fault : ByteArray := prog_12_method_58_code
def yX3_fault : MethodName := ⟨RX3, "fault", "(I)I"⟩
theorem tX3_fault : dtab cX3_fault [(0, .iload_n 1, 1, 1), (1, .i2l, 1, 2), (2, .lconst 0, 1, 3), (3, .ldc2_w 226, 3, 6), (6, .invokestatic 35, 3, 9), (9, .ifCond .ne 6, 3, 12), (12, .ldc 28, 2, 14), (14, .ireturn, 1, 15), (15, .aload_n 0, 1, 16), (16, .invokevirtual 106, 3, 19), (19, .aload_n 0, 1, 20), (20, .invokevirtual 228, 3, 23), (23, .istore_n 2, 1, 24), (24, .aload_n 0, 1, 25), (25, .invokevirtual 231, 3, 28), (28, .iload_n 2, 1, 29), (29, .ifCond .eq 8, 3, 32), (32, .ldc 131, 2, 34), (34, .goto 30, 3, 37), (37, .iload_n 1, 1, 38), (38, .ifCond .ne 10, 3, 41), (41, .aload_n 0, 1, 42), (42, .getfield 188, 3, 45), (45, .goto 19, 3, 48), (48, .iload_n 1, 1, 49), (49, .iconst 1, 1, 50), (50, .if_icmp .ne 10, 3, 53), (53, .aload_n 0, 1, 54), (54, .getfield 214, 3, 57), (57, .goto 7, 3, 60), (60, .aload_n 0, 1, 61), (61, .getfield 217, 3, 64), (64, .ireturn, 1, 65)] := by unfold dtab; decide +kernel
theorem okX3_fault : okY yX3_fault 1 := by decide +kernel
set_option maxHeartbeats 4000000 in
theorem c_fault (l : Launch) (D : va_G) {h0 : PH} {m : Nat} {ar : Nat → Nat} (hd : md m ar) (σ : MS) (x : Int32) (hW : WF σ) (tl : Nat) (htl : σ.2 3 = nI tl) (tl60 : tl ≤ 60) : Ct l D yX3_fault cX3_fault 3 (some .int) (rmM 7 165) [.ref m, .int x] (mh h0 m ar σ) (PM h0 m ar (some (.int ((m_fault σ tl x).1))) ((m_fault σ tl x).2)) := by
  refine Ct.of (by decide) rfl (fun Γ X rr hmn => ?_)
  have X : Cx l D cX3_fault RX3 3 (rmM 7 165) Γ := X
  show J Γ (mh h0 m ar σ) 0 0 0 [(0, .ref m), (1, .int x)] []
  refine J_iload_n X (dt tX3_fault 0 rfl) 1 rfl ?_
  refine J_i2l X (dt tX3_fault 1 rfl) ?_
  refine J_lconst X 0 (dt tX3_fault 2 rfl) (by decide) ?_
  refine J_ldc2 X (dt tX3_fault 3 rfl) q2085 ?_
  refine S_callS (rest := []) X (dt tX3_fault 4 rfl) (c_in l D _ x.toInt64 0 (2) ) (lw_S q1893 q1894 q86 q1895) okX3_in rfl ⟨Nat.le_of_ble_eq_true rfl, Nat.le_of_ble_eq_true rfl⟩ rfl (Nat.le_of_ble_eq_true rfl) (Nat.zero_le _) (Nat.zero_le _) ?_
  refine J_if_ne X 15 (dt tX3_fault 5 rfl) (by decide) (fun c1 => ?_) (fun c1 => ?_)
  · refine J_aload_n X (dt tX3_fault 8 rfl) 0 rfl ?_
    refine M_callV (rest := []) X (dt tX3_fault 9 rfl) (c_keep l D hd σ ) (lw_V q1881 q1883 qs36 q86 q1884) okX3_keep rfl rfl ⟨Nat.le_of_ble_eq_true rfl, Nat.le_of_ble_eq_true rfl⟩ rfl (Nat.le_of_ble_eq_true rfl) (Nat.zero_le _) (Nat.zero_le _) ?_
    refine J_aload_n X (dt tX3_fault 10 rfl) 0 rfl ?_
    refine M_callV (rest := []) X (dt tX3_fault 11 rfl) (c_doesAll l D hd (m_keep σ) hW.keep tl htl tl60) (lw_V q2086 q2088 qs61 q86 q2089) okX3_doesAll rfl rfl ⟨Nat.le_of_ble_eq_true rfl, Nat.le_of_ble_eq_true rfl⟩ rfl (Nat.le_of_ble_eq_true rfl) (Nat.zero_le _) (Nat.zero_le _) ?_
    refine J_istore_n X (lv2 := [(2, .int ((m_all (m_keep σ) tl).1)), (0, .ref m), (1, .int x)]) (dt tX3_fault 12 rfl) rfl rfl rfl ?_
    refine J_aload_n X (dt tX3_fault 13 rfl) 1 rfl ?_
    refine M_callV (rest := []) X (dt tX3_fault 14 rfl) (c_giveBack l D hd ((m_all (m_keep σ) tl).2) ) (lw_V q2121 q2123 qs67 q86 q2124) okX3_giveBack rfl rfl ⟨Nat.le_of_ble_eq_true rfl, Nat.le_of_ble_eq_true rfl⟩ rfl (Nat.le_of_ble_eq_true rfl) (Nat.zero_le _) (Nat.zero_le _) ?_
    refine J_iload_n X (dt tX3_fault 15 rfl) 0 rfl ?_
    have kj6 : ∀ v5 : Int32, v5 = (if ((m_all (m_keep σ) tl).1) = 0 then if x = 0 then (m_all (m_keep σ) tl).2.2 4 else if x = (nI 1) then (m_all (m_keep σ) tl).2.2 7 else (m_all (m_keep σ) tl).2.2 8 else (-10000004)) → J Γ (mh h0 m ar (m_give ((m_all (m_keep σ) tl).2))) 0 0 64 [(2, .int ((m_all (m_keep σ) tl).1)), (0, .ref m), (1, .int x)] [.int v5] := by
      intro v5 ev5
      exact J_iret X rr (dt tX3_fault 32 rfl) (Nat.zero_le _) (Nat.zero_le _) (by subst_vars; exact pm_of (if_neg c1))
    refine J_if_eq X 37 (dt tX3_fault 16 rfl) (by decide) (fun c2 => ?_) (fun c2 => ?_)
    · refine J_iload_n X (dt tX3_fault 19 rfl) 2 rfl ?_
      refine J_if_ne X 48 (dt tX3_fault 20 rfl) (by decide) (fun c3 => ?_) (fun c3 => ?_)
      · refine J_iload_n X (dt tX3_fault 24 rfl) 2 rfl ?_
        refine J_iconst X (nI 1) (dt tX3_fault 25 rfl) (by decide) ?_
        refine J_icmp_ne X 60 (dt tX3_fault 26 rfl) (by decide) (fun c4 => ?_) (fun c4 => ?_)
        · refine J_aload_n X (dt tX3_fault 30 rfl) 1 rfl ?_
          refine M_get_cause X (dt tX3_fault 31 rfl) ?_
          refine J_topi rfl ?_
          exact kj6 _ ((if_pos c2).trans ((if_neg c3).trans (if_neg c4))).symm
        · refine J_aload_n X (dt tX3_fault 27 rfl) 1 rfl ?_
          refine M_get_why X (dt tX3_fault 28 rfl) ?_
          refine J_topi rfl ?_
          refine J_goto X (tgt := 64) (dt tX3_fault 29 rfl) (by decide) ?_
          exact kj6 _ ((if_pos c2).trans ((if_neg c3).trans (if_pos c4))).symm
      · refine J_aload_n X (dt tX3_fault 21 rfl) 1 rfl ?_
        refine M_get_from X (dt tX3_fault 22 rfl) ?_
        refine J_topi rfl ?_
        refine J_goto X (tgt := 64) (dt tX3_fault 23 rfl) (by decide) ?_
        exact kj6 _ ((if_pos c2).trans (if_pos c3)).symm
    · refine J_ldc X (dt tX3_fault 17 rfl) q2000 ?_
      refine J_goto X (tgt := 64) (dt tX3_fault 18 rfl) (by decide) ?_
      exact kj6 _ (if_neg c2).symm
  · refine J_ldc X (dt tX3_fault 6 rfl) q1903 ?_
    exact J_iret X rr (dt tX3_fault 7 rfl) (Nat.zero_le _) (Nat.zero_le _) (pm_of (if_pos c1))
abbrev cX3_play : ByteArray := prog_12_method_59_code
def yX3_play : MethodName := ⟨RX3, "play", "()I"⟩
theorem tX3_play : dtab cX3_play [(0, .aload_n 0, 1, 1), (1, .invokevirtual 106, 3, 4), (4, .aload_n 0, 1, 5), (5, .invokevirtual 228, 3, 8), (8, .ifCond .ne 10, 3, 11), (11, .aload_n 0, 1, 12), (12, .invokevirtual 231, 3, 15), (15, .ldc 85, 2, 17), (17, .ireturn, 1, 18), (18, .aload_n 0, 1, 19), (19, .aload_n 0, 1, 20), (20, .getfield 211, 3, 23), (23, .invokevirtual 113, 3, 26), (26, .ireturn, 1, 27)] := by unfold dtab; decide +kernel
theorem okX3_play : okY yX3_play 0 := by decide +kernel
set_option maxHeartbeats 4000000 in
theorem c_play (l : Launch) (D : va_G) {h0 : PH} {m : Nat} {ar : Nat → Nat} (hd : md m ar) (σ : MS)  (hW : WF σ) (tl : Nat) (htl : σ.2 3 = nI tl) (tl60 : tl ≤ 60) (hl : Nat) (hhl : σ.2 0 = nI hl) (hl4 : hl ≤ 4) : Ct l D yX3_play cX3_play 1 (some .int) (rmM 7 165) [.ref m] (mh h0 m ar σ) (PM h0 m ar (some (.int ((m_play σ tl hl).1))) ((m_play σ tl hl).2)) := by
  refine Ct.of (by decide) rfl (fun Γ X rr hmn => ?_)
  have X : Cx l D cX3_play RX3 1 (rmM 7 165) Γ := X
  show J Γ (mh h0 m ar σ) 0 0 0 [(0, .ref m)] []
  refine J_aload_n X (dt tX3_play 0 rfl) 0 rfl ?_
  refine M_callV (rest := []) X (dt tX3_play 1 rfl) (c_keep l D hd σ ) (lw_V q1881 q1883 qs36 q86 q1884) okX3_keep rfl rfl ⟨Nat.le_of_ble_eq_true rfl, Nat.le_of_ble_eq_true rfl⟩ rfl (Nat.le_of_ble_eq_true rfl) (Nat.zero_le _) (Nat.zero_le _) ?_
  refine J_aload_n X (dt tX3_play 2 rfl) 0 rfl ?_
  refine M_callV (rest := []) X (dt tX3_play 3 rfl) (c_doesAll l D hd (m_keep σ) hW.keep tl htl tl60) (lw_V q2086 q2088 qs61 q86 q2089) okX3_doesAll rfl rfl ⟨Nat.le_of_ble_eq_true rfl, Nat.le_of_ble_eq_true rfl⟩ rfl (Nat.le_of_ble_eq_true rfl) (Nat.zero_le _) (Nat.zero_le _) ?_
  refine J_if_ne X 18 (dt tX3_play 4 rfl) (by decide) (fun c1 => ?_) (fun c1 => ?_)
  · refine J_aload_n X (dt tX3_play 9 rfl) 0 rfl ?_
    refine J_aload_n X (dt tX3_play 10 rfl) 0 rfl ?_
    refine M_get_done X (dt tX3_play 11 rfl) ?_
    refine M_callV (rest := []) X (dt tX3_play 12 rfl) (c_changed l D hd ((m_all (m_keep σ) tl).2) (((m_all (m_keep σ) tl).2).2 6) hl ((m_all_hl (m_keep σ) tl 0 (Or.inl rfl)).trans hhl) hl4) (lw_V q1945 q1947 qs48 q86 q1948) okX3_changed rfl rfl ⟨Nat.le_of_ble_eq_true rfl, Nat.le_of_ble_eq_true rfl⟩ rfl (Nat.le_of_ble_eq_true rfl) (Nat.zero_le _) (Nat.zero_le _) ?_
    exact J_iret X rr (dt tX3_play 13 rfl) (Nat.zero_le _) (Nat.zero_le _) (pm_of (if_neg c1))
  · refine J_aload_n X (dt tX3_play 5 rfl) 0 rfl ?_
    refine M_callV (rest := []) X (dt tX3_play 6 rfl) (c_giveBack l D hd ((m_all (m_keep σ) tl).2) ) (lw_V q2121 q2123 qs67 q86 q2124) okX3_giveBack rfl rfl ⟨Nat.le_of_ble_eq_true rfl, Nat.le_of_ble_eq_true rfl⟩ rfl (Nat.le_of_ble_eq_true rfl) (Nat.zero_le _) (Nat.zero_le _) ?_
    refine J_ldc X (dt tX3_play 7 rfl) q1908 ?_
    exact J_iret X rr (dt tX3_play 8 rfl) (Nat.zero_le _) (Nat.zero_le _) (pm_of (if_pos c1))
