/-! printed by gen/modelm.py -/
set_option maxRecDepth 100000
theorem q2099 : (Jvm.Cond.constantLong "LeadRacesModel" (179 : Nat) (255 : Int64)) ∈ lw_all := lw_g (lw_at lw_m9 111 rfl) rfl
theorem q2100 : (Jvm.Cond.methodLink "LeadRacesModel" (181 : Nat) ({ cls := "LeadRacesModel", name := "takes", desc := "(I)Z" } : Jvm.MethodName)) ∈ lw_all := lw_g (lw_at lw_m9 112 rfl) rfl
theorem q2102 : (Jvm.Cond.instanceMethod ({ cls := "LeadRacesModel", name := "takes", desc := "(I)Z" } : Jvm.MethodName)) ∈ lw_all := lw_g (lw_at lw_m9 114 rfl) rfl
theorem q2103 : (Jvm.Cond.code ({ cls := "LeadRacesModel", name := "takes", desc := "(I)Z" } : Jvm.MethodName) prog_12_method_51_code (3 : Nat) (Option.some Jvm.ClassFile.FieldType.boolean)) ∈ lw_all := lw_g (lw_at lw_m9 115 rfl) rfl
/-! the reference reads its text -/
def tkR (tx : Nat → Int32) (tl p : Nat) (c : Int32) : Int32 := if p < tl then (if tx p = c then 1 else 0) else 0
def tkP (tx : Nat → Int32) (tl p : Nat) (c : Int32) : Nat := if p < tl then (if tx p = c then p + 1 else p) else p
theorem sV_id {σ : MS} {j : Nat} {x : Int32} (h : σ.2 j = x) : sV σ j x = σ := by
  unfold sV
  refine Prod.ext rfl ?_
  funext k
  show (if k = j then x else σ.2 k) = σ.2 k
  by_cases hk : k = j
  · rw [if_pos hk, hk, h]
  · rw [if_neg hk]
abbrev cX3_takes : ByteArray := prog_12_method_51_code
def yX3_takes : MethodName := ⟨RX3, "takes", "(I)Z"⟩
theorem tX3_takes : dtab cX3_takes [(0, .aload_n 0, 1, 1), (1, .getfield 176, 3, 4), (4, .aload_n 0, 1, 5), (5, .getfield 143, 3, 8), (8, .if_icmp .ge 20, 3, 11), (11, .aload_n 0, 1, 12), (12, .getfield 22, 3, 15), (15, .aload_n 0, 1, 16), (16, .getfield 176, 3, 19), (19, .iaload, 1, 20), (20, .iload_n 1, 1, 21), (21, .if_icmp .ne 7, 3, 24), (24, .iconst 1, 1, 25), (25, .goto 4, 3, 28), (28, .iconst 0, 1, 29), (29, .istore_n 2, 1, 30), (30, .aload_n 0, 1, 31), (31, .dup, 1, 32), (32, .getfield 176, 3, 35), (35, .iload_n 2, 1, 36), (36, .ifCond .eq 7, 3, 39), (39, .iconst 1, 1, 40), (40, .goto 4, 3, 43), (43, .iconst 0, 1, 44), (44, .iadd, 1, 45), (45, .putfield 176, 3, 48), (48, .iload_n 2, 1, 49), (49, .ireturn, 1, 50)] := by unfold dtab; decide +kernel
theorem okX3_takes : okY yX3_takes 1 := by decide +kernel
set_option maxHeartbeats 4000000 in
theorem c_takes (l : Launch) (D : va_G) {h0 : PH} {m : Nat} {ar : Nat → Nat} (hd : md m ar) (σ : MS) (c : Int32) (tl p : Nat) (htl : σ.2 3 = nI tl) (tl60 : tl ≤ 60) (hp9 : p ≤ 100) : Ct l D yX3_takes cX3_takes 3 (some .boolean) (rmM 0 0) [.ref m, .int c] (mh h0 m ar (sV σ 5 (nI p))) (PM h0 m ar (some (.int (tkR (σ.1 4) tl p c))) (sV σ 5 (nI (tkP (σ.1 4) tl p c)))) := by
  refine Ct.of (by decide) rfl (fun Γ X rr hmn => ?_)
  have X : Cx l D cX3_takes RX3 3 (rmM 0 0) Γ := X
  show J Γ (mh h0 m ar (sV σ 5 (nI p))) 0 0 0 [(0, .ref m), (1, .int c)] []
  by_cases h1 : p < tl
  · by_cases h2 : σ.1 4 p = c
    · refine J_aload_n X (dt tX3_takes 0 rfl) 0 rfl ?_
      refine M_get_at X (dt tX3_takes 1 rfl) ?_
      refine J_aload_n X (dt tX3_takes 2 rfl) 0 rfl ?_
      refine M_get_textLong X (dt tX3_takes 3 rfl) ?_
      refine J_topi htl ?_
      refine J_icmp_ge X 28 (dt tX3_takes 4 rfl) (by decide) (fun c9 => absurd c9 (nI_ge h1 (by omega))) (fun _ => ?_)
      refine J_aload_n X (dt tX3_takes 5 rfl) 0 rfl ?_
      refine M_get_text X (dt tX3_takes 6 rfl) ?_
      refine J_aload_n X (dt tX3_takes 7 rfl) 0 rfl ?_
      refine M_get_at X (dt tX3_takes 8 rfl) ?_
      refine M_ald_text X hd (dt tX3_takes 9 rfl) (by omega) ?_
      refine J_iload_n X (dt tX3_takes 10 rfl) 1 rfl ?_
      refine J_icmp_ne X 28 (dt tX3_takes 11 rfl) (by decide) (fun c9 => absurd (h2) c9) (fun _ => ?_)
      refine J_iconst X (nI 1) (dt tX3_takes 12 rfl) (by decide) ?_
      refine J_goto X (tgt := 29) (dt tX3_takes 13 rfl) (by decide) ?_
      refine J_istore_n X (lv2 := [(2, .int (nI 1)), (0, .ref m), (1, .int c)]) (dt tX3_takes 15 rfl) rfl rfl rfl ?_
      refine J_aload_n X (dt tX3_takes 16 rfl) 1 rfl ?_
      refine J_dup X (dt tX3_takes 17 rfl) rfl ?_
      refine M_get_at X (dt tX3_takes 18 rfl) ?_
      refine J_iload_n X (dt tX3_takes 19 rfl) 0 rfl ?_
      refine J_if_eq X 43 (dt tX3_takes 20 rfl) (by decide) (fun c9 => absurd c9 ((by decide))) (fun _ => ?_)
      refine J_iconst X (nI 1) (dt tX3_takes 21 rfl) (by decide) ?_
      refine J_goto X (tgt := 44) (dt tX3_takes 22 rfl) (by decide) ?_
      refine J_iaddN X (dt tX3_takes 24 rfl) ?_
      refine M_put_at X (dt tX3_takes 25 rfl) ?_
      refine J_heap (h2 := mh h0 m ar (sV σ 5 (nI (p + 1)))) (congrArg (mh h0 m ar) (sV_sV _ _ _ _)) ?_
      refine J_iload_n X (dt tX3_takes 26 rfl) 0 rfl ?_
      exact J_zret X rr (dt tX3_takes 27 rfl) (Nat.zero_le _) (Nat.zero_le _) (isB.nar (by first | exact isB_0 | exact isB_1)) ⟨congrArg (fun z => some (Value.int z)) ((if_pos h1).trans (if_pos h2)).symm, congrArg (fun z => mh h0 m ar (sV σ 5 (nI z))) ((if_pos h1).trans (if_pos h2)).symm⟩
    · refine J_aload_n X (dt tX3_takes 0 rfl) 0 rfl ?_
      refine M_get_at X (dt tX3_takes 1 rfl) ?_
      refine J_aload_n X (dt tX3_takes 2 rfl) 0 rfl ?_
      refine M_get_textLong X (dt tX3_takes 3 rfl) ?_
      refine J_topi htl ?_
      refine J_icmp_ge X 28 (dt tX3_takes 4 rfl) (by decide) (fun c9 => absurd c9 (nI_ge h1 (by omega))) (fun _ => ?_)
      refine J_aload_n X (dt tX3_takes 5 rfl) 0 rfl ?_
      refine M_get_text X (dt tX3_takes 6 rfl) ?_
      refine J_aload_n X (dt tX3_takes 7 rfl) 0 rfl ?_
      refine M_get_at X (dt tX3_takes 8 rfl) ?_
      refine M_ald_text X hd (dt tX3_takes 9 rfl) (by omega) ?_
      refine J_iload_n X (dt tX3_takes 10 rfl) 1 rfl ?_
      refine J_icmp_ne X 28 (dt tX3_takes 11 rfl) (by decide) (fun _ => ?_) (fun c9 => absurd c9 (h2))
      refine J_iconst X (nI 0) (dt tX3_takes 14 rfl) (by decide) ?_
      refine J_istore_n X (lv2 := [(2, .int (nI 0)), (0, .ref m), (1, .int c)]) (dt tX3_takes 15 rfl) rfl rfl rfl ?_
      refine J_aload_n X (dt tX3_takes 16 rfl) 1 rfl ?_
      refine J_dup X (dt tX3_takes 17 rfl) rfl ?_
      refine M_get_at X (dt tX3_takes 18 rfl) ?_
      refine J_iload_n X (dt tX3_takes 19 rfl) 0 rfl ?_
      refine J_if_eq X 43 (dt tX3_takes 20 rfl) (by decide) (fun _ => ?_) (fun c9 => absurd (rfl) c9)
      refine J_iconst X (nI 0) (dt tX3_takes 23 rfl) (by decide) ?_
      refine J_iaddN X (dt tX3_takes 24 rfl) ?_
      refine M_put_at X (dt tX3_takes 25 rfl) ?_
      refine J_heap (h2 := mh h0 m ar (sV σ 5 (nI (p + 0)))) (congrArg (mh h0 m ar) (sV_sV _ _ _ _)) ?_
      refine J_iload_n X (dt tX3_takes 26 rfl) 0 rfl ?_
      exact J_zret X rr (dt tX3_takes 27 rfl) (Nat.zero_le _) (Nat.zero_le _) (isB.nar (by first | exact isB_0 | exact isB_1)) ⟨congrArg (fun z => some (Value.int z)) ((if_pos h1).trans (if_neg h2)).symm, congrArg (fun z => mh h0 m ar (sV σ 5 (nI z))) ((if_pos h1).trans (if_neg h2)).symm⟩
  · refine J_aload_n X (dt tX3_takes 0 rfl) 0 rfl ?_
    refine M_get_at X (dt tX3_takes 1 rfl) ?_
    refine J_aload_n X (dt tX3_takes 2 rfl) 0 rfl ?_
    refine M_get_textLong X (dt tX3_takes 3 rfl) ?_
    refine J_topi htl ?_
    refine J_icmp_ge X 28 (dt tX3_takes 4 rfl) (by decide) (fun _ => ?_) (fun c9 => absurd (nI_le (by omega) (by omega)) c9)
    refine J_iconst X (nI 0) (dt tX3_takes 14 rfl) (by decide) ?_
    refine J_istore_n X (lv2 := [(2, .int (nI 0)), (0, .ref m), (1, .int c)]) (dt tX3_takes 15 rfl) rfl rfl rfl ?_
    refine J_aload_n X (dt tX3_takes 16 rfl) 1 rfl ?_
    refine J_dup X (dt tX3_takes 17 rfl) rfl ?_
    refine M_get_at X (dt tX3_takes 18 rfl) ?_
    refine J_iload_n X (dt tX3_takes 19 rfl) 0 rfl ?_
    refine J_if_eq X 43 (dt tX3_takes 20 rfl) (by decide) (fun _ => ?_) (fun c9 => absurd (rfl) c9)
    refine J_iconst X (nI 0) (dt tX3_takes 23 rfl) (by decide) ?_
    refine J_iaddN X (dt tX3_takes 24 rfl) ?_
    refine M_put_at X (dt tX3_takes 25 rfl) ?_
    refine J_heap (h2 := mh h0 m ar (sV σ 5 (nI (p + 0)))) (congrArg (mh h0 m ar) (sV_sV _ _ _ _)) ?_
    refine J_iload_n X (dt tX3_takes 26 rfl) 0 rfl ?_
    exact J_zret X rr (dt tX3_takes 27 rfl) (Nat.zero_le _) (Nat.zero_le _) (isB.nar (by first | exact isB_0 | exact isB_1)) ⟨congrArg (fun z => some (Value.int z)) (if_neg h1).symm, congrArg (fun z => mh h0 m ar (sV σ 5 (nI z))) (if_neg h1).symm⟩
theorem c_takesY (l : Launch) (D : va_G) {h0 : PH} {m : Nat} {ar : Nat → Nat} (hd : md m ar) (σ : MS) (c : Int32) (tl p : Nat) (htl : σ.2 3 = nI tl) (tl60 : tl ≤ 60) (hp9 : p ≤ 100) (hy : p < tl ∧ σ.1 4 p = c) : Ct l D yX3_takes cX3_takes 3 (some .boolean) (rmM 0 0) [.ref m, .int c] (mh h0 m ar (sV σ 5 (nI p))) (PM h0 m ar (some (.int (nI 1))) (sV σ 5 (nI (p + 1)))) := by
  have h := c_takes l D (h0 := h0) hd σ c tl p htl tl60 hp9
  unfold tkR tkP at h
  rw [if_pos hy.1, if_pos hy.2, if_pos hy.1, if_pos hy.2] at h
  exact h
theorem c_takesN (l : Launch) (D : va_G) {h0 : PH} {m : Nat} {ar : Nat → Nat} (hd : md m ar) (σ : MS) (c : Int32) (tl p : Nat) (htl : σ.2 3 = nI tl) (tl60 : tl ≤ 60) (hp9 : p ≤ 100) (hn : ¬ (p < tl ∧ σ.1 4 p = c)) : Ct l D yX3_takes cX3_takes 3 (some .boolean) (rmM 0 0) [.ref m, .int c] (mh h0 m ar (sV σ 5 (nI p))) (PM h0 m ar (some (.int (nI 0))) (sV σ 5 (nI p))) := by
  have h := c_takes l D (h0 := h0) hd σ c tl p htl tl60 hp9
  have e1 : tkR (σ.1 4) tl p c = 0 := by
    unfold tkR
    by_cases h1 : p < tl
    · rw [if_pos h1, if_neg (fun z => hn ⟨h1, z⟩)]
    · rw [if_neg h1]
  have e2 : tkP (σ.1 4) tl p c = p := by
    unfold tkP
    by_cases h1 : p < tl
    · rw [if_pos h1, if_neg (fun z => hn ⟨h1, z⟩)]
    · rw [if_neg h1]
  rw [e1, e2] at h
  exact h
/-- a word's letters from p on: whether all are there, where the reading stands then -/
def wd (tx : Nat → Int32) (tl : Nat) : List Int32 → Nat → Int32 × Nat
  | [], p => (1, p)
  | c :: cs, p => if p < tl ∧ tx p = c then wd tx tl cs (p + 1) else (0, p)
theorem wd_le (tx : Nat → Int32) (tl : Nat) (cs : List Int32) : ∀ p, (wd tx tl cs p).2 ≤ p + cs.length := by
  induction cs with
  | nil => intro p; exact Nat.le_refl _
  | cons c cs ih =>
    intro p
    rw [wd]
    split
    · have := ih (p + 1)
      rw [List.length_cons]
      omega
    · exact Nat.le_add_right _ _
theorem wd_B (tx : Nat → Int32) (tl : Nat) (cs : List Int32) : ∀ p, isB (wd tx tl cs p).1 := by
  induction cs with
  | nil => intro p; exact isB_1
  | cons c cs ih =>
    intro p
    rw [wd]
    split
    · exact ih _
    · exact isB_0
/-- the number holds the letters: the last one in its lowest byte -/
def wch (x : Int64) (cs : List Int32) : Prop := ∀ k, k < cs.length → (x >>> ((nI (8 * k)).toInt64 &&& 63) &&& 255).toInt32 = cs.getD (cs.length - 1 - k) 0
theorem rs_m1 (rs : List Int32) : nI rs.length + (-1) = nI rs.length - nI 1 := by
  rw [Int32.sub_eq_add_neg]
  rfl
theorem J_l5 {Γ : Cxt} {h : PH} {k n pc : Nat} {a b c d : Nat × Value} {j : Nat} {x y : Int32} {st : List Value} (e : x = y) (kk : J Γ h k n pc [a, b, c, d, (j, .int y)] st) : J Γ h k n pc [a, b, c, d, (j, .int x)] st := e ▸ kk
theorem pw_of {h0 : PH} {m : Nat} {ar : Nat → Nat} {σ : MS} {q : Int32 × Nat} {v : Int32} {p : Nat} (e : (v, p) = q) : PM h0 m ar (some (.int q.1)) (sV σ 5 (nI q.2)) (some (.int v)) (mh h0 m ar (sV σ 5 (nI p))) := by
  subst e
  exact ⟨rfl, rfl⟩
abbrev cX3_takesWord : ByteArray := prog_12_method_52_code
def yX3_takesWord : MethodName := ⟨RX3, "takesWord", "(JI)Z"⟩
theorem tX3_takesWord : dtab cX3_takesWord [(0, .iconst 1, 1, 1), (1, .istore 4, 2, 3), (3, .iload_n 3, 1, 4), (4, .iconst 1, 1, 5), (5, .isub, 1, 6), (6, .istore 5, 2, 8), (8, .iload 5, 2, 10), (10, .ifCond .lt 32, 3, 13), (13, .iload 4, 2, 15), (15, .ifCond .eq 27, 3, 18), (18, .aload_n 0, 1, 19), (19, .lload_n 1, 1, 20), (20, .bipush 8, 2, 22), (22, .iload 5, 2, 24), (24, .imul, 1, 25), (25, .lshr, 1, 26), (26, .ldc2_w 179, 3, 29), (29, .land, 1, 30), (30, .l2i, 1, 31), (31, .invokevirtual 181, 3, 34), (34, .istore 4, 2, 36), (36, .iinc 5 (-1), 3, 39), (39, .goto (-31), 3, 42), (42, .iload 4, 2, 44), (44, .ireturn, 1, 45)] := by unfold dtab; decide +kernel
theorem okX3_takesWord : okY yX3_takesWord 2 := by decide +kernel
set_option maxHeartbeats 4000000 in
theorem c_takesWord (l : Launch) (D : va_G) {h0 : PH} {m : Nat} {ar : Nat → Nat} (hd : md m ar) (σ : MS) (x : Int64) (n : Nat) (cs : List Int32) (hn : n = cs.length) (hch : wch x cs) (tl p0 : Nat) (htl : σ.2 3 = nI tl) (tl60 : tl ≤ 60) (hp9 : p0 + cs.length ≤ 100) : Ct l D yX3_takesWord cX3_takesWord 6 (some .boolean) (rmM 1 22) [.ref m, .long x, .int (nI n)] (mh h0 m ar (sV σ 5 (nI p0))) (PM h0 m ar (some (.int ((wd (σ.1 4) tl cs p0).1))) (sV σ 5 (nI (wd (σ.1 4) tl cs p0).2))) := by
  refine Ct.of (by decide) rfl (fun Γ X rr hmn => ?_)
  have X : Cx l D cX3_takesWord RX3 6 (rmM 1 22) Γ := X
  show J Γ (mh h0 m ar (sV σ 5 (nI p0))) 0 0 0 [(0, .ref m), (1, .long x), (3, .int (nI n))] []
  subst hn
  refine J_iconst X (nI 1) (dt tX3_takesWord 0 rfl) (by decide) ?_
  refine J_istore X (lv2 := [(4, .int (nI 1)), (0, .ref m), (1, .long x), (3, .int (nI cs.length))]) (dt tX3_takesWord 1 rfl) rfl rfl ?_
  refine J_iload_n X (dt tX3_takesWord 2 rfl) 3 rfl ?_
  refine J_iconst X (nI 1) (dt tX3_takesWord 3 rfl) (by decide) ?_
  refine J_isub X (dt tX3_takesWord 4 rfl) ?_
  refine J_istore X (lv2 := [(5, .int ((nI cs.length) - (nI 1))), (4, .int (nI 1)), (0, .ref m), (1, .long x), (3, .int (nI cs.length))]) (dt tX3_takesWord 5 rfl) rfl rfl ?_
  have key : ∀ (rs pre : List Int32) (p : Nat), cs = pre ++ rs → p + rs.length ≤ 100 → (∀ v : Int32, ∀ q : Nat, (v, q) = wd (σ.1 4) tl rs p → (v, q) = wd (σ.1 4) tl cs p0) → J Γ (mh h0 m ar (sV σ 5 (nI p))) 0 0 8 [(0, .ref m), (1, .long x), (3, .int (nI cs.length)), (4, .int (nI 1)), (5, .int (nI rs.length - nI 1))] [] := by
    intro rs
    induction rs with
    | nil =>
      intro pre p hpre hp hw
      refine J_iload X (dt tX3_takesWord 6 rfl) 4 rfl ?_
      refine J_if_lt X 42 (dt tX3_takesWord 7 rfl) (by decide) (fun _ => ?_) (fun c9 => absurd ((by decide)) c9)
      refine J_iload X (dt tX3_takesWord 23 rfl) 3 rfl ?_
      exact J_zret X rr (dt tX3_takesWord 24 rfl) (Nat.zero_le _) (Nat.zero_le _) (isB.nar isB_1) (pw_of (hw 1 p rfl))
    | cons c rs ih =>
      intro pre p hpre hp hw
      rw [List.length_cons] at hp
      have ek : nI (c :: rs).length - nI 1 = nI rs.length := by rw [List.length_cons]; exact nI_pred _
      have el : cs.length = pre.length + (rs.length + 1) := by rw [hpre, List.length_append, List.length_cons]
      have ec : (x >>> ((nI (8 * rs.length)).toInt64 &&& 63) &&& 255).toInt32 = c := by
        rw [hch rs.length (by omega), show cs.length - 1 - rs.length = pre.length by omega, hpre]
        simp
      rw [ek]
      refine J_iload X (dt tX3_takesWord 6 rfl) 4 rfl ?_
      refine J_if_lt X 42 (dt tX3_takesWord 7 rfl) (by decide) (fun c9 => absurd c9 ((nI_pos (by omega)))) (fun _ => ?_)
      refine J_iload X (dt tX3_takesWord 8 rfl) 3 rfl ?_
      refine J_if_eq X 42 (dt tX3_takesWord 9 rfl) (by decide) (fun c9 => absurd c9 ((by decide))) (fun _ => ?_)
      refine J_aload_n X (dt tX3_takesWord 10 rfl) 0 rfl ?_
      refine J_lload_n X (dt tX3_takesWord 11 rfl) 1 rfl ?_
      refine J_bipush X (nI 8) (dt tX3_takesWord 12 rfl) (by decide) ?_
      refine J_iload X (dt tX3_takesWord 13 rfl) 4 rfl ?_
      refine J_imulN X (dt tX3_takesWord 14 rfl) ?_
      refine J_lshr X (dt tX3_takesWord 15 rfl) ?_
      refine J_ldc2 X (dt tX3_takesWord 16 rfl) q2099 ?_
      refine J_land X (dt tX3_takesWord 17 rfl) ?_
      refine J_l2i X (dt tX3_takesWord 18 rfl) ?_
      refine J_topi ec ?_
      by_cases hy : p < tl ∧ σ.1 4 p = c
      · refine M_callV (rest := []) X (dt tX3_takesWord 19 rfl) (c_takesY l D hd σ c tl p htl tl60 (by omega) hy) (lw_V q2100 q2102 qs64 q86 q2103) okX3_takes rfl rfl ⟨Nat.le_of_ble_eq_true rfl, Nat.le_of_ble_eq_true rfl⟩ rfl (Nat.le_of_ble_eq_true rfl) (Nat.zero_le _) (Nat.zero_le _) ?_
        refine J_istore X (lv2 := [(4, .int (nI 1)), (0, .ref m), (1, .long x), (3, .int (nI cs.length)), (5, .int (nI rs.length))]) (dt tX3_takesWord 20 rfl) rfl rfl ?_
        refine J_iinc X (lv2 := [(5, .int (nI rs.length + (-1))), (4, .int (nI 1)), (0, .ref m), (1, .long x), (3, .int (nI cs.length))]) (dt tX3_takesWord 21 rfl) 4 (nI rs.length + (-1)) rfl rfl rfl rfl ?_
        refine J_goto X (tgt := 8) (dt tX3_takesWord 22 rfl) (by decide) ?_
        refine J_sub [2, 3, 4, 1, 0] rfl ?_
        refine J_l5 (rs_m1 rs) ?_
        exact ih (pre ++ [c]) (p + 1) (by rw [hpre, List.append_assoc]; rfl) (by omega) (fun v q e => hw v q (by rw [wd, if_pos hy]; exact e))
      · refine M_callV (rest := []) X (dt tX3_takesWord 19 rfl) (c_takesN l D hd σ c tl p htl tl60 (by omega) hy) (lw_V q2100 q2102 qs64 q86 q2103) okX3_takes rfl rfl ⟨Nat.le_of_ble_eq_true rfl, Nat.le_of_ble_eq_true rfl⟩ rfl (Nat.le_of_ble_eq_true rfl) (Nat.zero_le _) (Nat.zero_le _) ?_
        refine J_istore X (lv2 := [(4, .int (nI 0)), (0, .ref m), (1, .long x), (3, .int (nI cs.length)), (5, .int (nI rs.length))]) (dt tX3_takesWord 20 rfl) rfl rfl ?_
        refine J_iinc X (lv2 := [(5, .int (nI rs.length + (-1))), (4, .int (nI 0)), (0, .ref m), (1, .long x), (3, .int (nI cs.length))]) (dt tX3_takesWord 21 rfl) 4 (nI rs.length + (-1)) rfl rfl rfl rfl ?_
        refine J_goto X (tgt := 8) (dt tX3_takesWord 22 rfl) (by decide) ?_
        refine J_iload X (dt tX3_takesWord 6 rfl) 0 rfl ?_
        have kj2 : J Γ (mh h0 m ar (sV σ 5 (nI p))) 0 0 42 [(5, .int (nI rs.length + (-1))), (4, .int (nI 0)), (0, .ref m), (1, .long x), (3, .int (nI cs.length))] [] := by
          refine J_iload X (dt tX3_takesWord 23 rfl) 1 rfl ?_
          exact J_zret X rr (dt tX3_takesWord 24 rfl) (Nat.zero_le _) (Nat.zero_le _) (isB.nar isB_0) (pw_of (hw 0 p (by rw [wd, if_neg hy])))
        refine J_if_lt X 42 (dt tX3_takesWord 7 rfl) (by decide) (fun c1 => ?_) (fun c1 => ?_)
        · exact kj2
        · refine J_iload X (dt tX3_takesWord 8 rfl) 1 rfl ?_
          refine J_if_eq X 42 (dt tX3_takesWord 9 rfl) (by decide) (fun _ => ?_) (fun c9 => absurd (rfl) c9)
          exact kj2
  refine J_sub [2, 3, 4, 1, 0] rfl ?_
  exact key cs [] p0 rfl (by omega) (fun v q e => e)
