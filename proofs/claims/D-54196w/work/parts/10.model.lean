/-! the reference: its object m, its six arrays ar 0 .. ar 5, their contents σ.1 0 .. 5, its numbers σ.2 0 .. 8 (printed by gen/model.py) -/
set_option maxRecDepth 100000
abbrev MS : Type := (Nat → Nat → Int32) × (Nat → Int32)
def mlen (i : Nat) : Nat := match i with
  | 0 => 88
  | 1 => 88
  | 2 => 352
  | 3 => 7
  | 4 => 60
  | _ => 3
def mfs (ar : Nat → Nat) (σ : MS) : List Value := [.ref (ar 0), .ref (ar 1), .ref (ar 2), .int (σ.2 0), .ref (ar 3), .int (σ.2 1), .int (σ.2 2), .ref (ar 4), .int (σ.2 3), .int (σ.2 4), .int (σ.2 5), .ref (ar 5), .int (σ.2 6), .int (σ.2 7), .int (σ.2 8)]
def mh (h0 : PH) (m : Nat) (ar : Nat → Nat) (σ : MS) : PH := fun q => if q = m then some (eo 8 (mfs ar σ)) else if q = ar 0 then some (eI 88 (σ.1 0)) else if q = ar 1 then some (eI 88 (σ.1 1)) else if q = ar 2 then some (eI 352 (σ.1 2)) else if q = ar 3 then some (eI 7 (σ.1 3)) else if q = ar 4 then some (eI 60 (σ.1 4)) else if q = ar 5 then some (eI 3 (σ.1 5)) else h0 q
/-- the addresses are apart -/
def md (m : Nat) (ar : Nat → Nat) : Prop := (∀ i, i < 6 → ar i ≠ m) ∧ ∀ i j, i < 6 → j < 6 → ar i = ar j → i = j
def sA (σ : MS) (i : Nat) (f : Nat → Int32) : MS := (fun k => if k = i then f else σ.1 k, σ.2)
def sV (σ : MS) (j : Nat) (x : Int32) : MS := (σ.1, fun k => if k = j then x else σ.2 k)
theorem sA_s {σ : MS} {i : Nat} {f : Nat → Int32} : (sA σ i f).1 i = f := if_pos rfl
theorem sA_n {σ : MS} {i j : Nat} {f : Nat → Int32} (h : j ≠ i) : (sA σ i f).1 j = σ.1 j := if_neg h
theorem mh_m {h0 : PH} {m : Nat} {ar : Nat → Nat} {σ : MS} : mh h0 m ar σ m = some (eo 8 (mfs ar σ)) := if_pos rfl
theorem mh_a0 {h0 : PH} {m : Nat} {ar : Nat → Nat} {σ : MS} (hd : md m ar) : mh h0 m ar σ (ar 0) = some (eI 88 (σ.1 0)) := by
  unfold mh
  rw [if_neg (hd.1 0 (by decide)), if_pos rfl]
theorem mh_a1 {h0 : PH} {m : Nat} {ar : Nat → Nat} {σ : MS} (hd : md m ar) : mh h0 m ar σ (ar 1) = some (eI 88 (σ.1 1)) := by
  unfold mh
  rw [if_neg (hd.1 1 (by decide)), if_neg (fun z => absurd (hd.2 1 0 (by decide) (by decide) z) (by decide)), if_pos rfl]
theorem mh_a2 {h0 : PH} {m : Nat} {ar : Nat → Nat} {σ : MS} (hd : md m ar) : mh h0 m ar σ (ar 2) = some (eI 352 (σ.1 2)) := by
  unfold mh
  rw [if_neg (hd.1 2 (by decide)), if_neg (fun z => absurd (hd.2 2 0 (by decide) (by decide) z) (by decide)), if_neg (fun z => absurd (hd.2 2 1 (by decide) (by decide) z) (by decide)), if_pos rfl]
theorem mh_a3 {h0 : PH} {m : Nat} {ar : Nat → Nat} {σ : MS} (hd : md m ar) : mh h0 m ar σ (ar 3) = some (eI 7 (σ.1 3)) := by
  unfold mh
  rw [if_neg (hd.1 3 (by decide)), if_neg (fun z => absurd (hd.2 3 0 (by decide) (by decide) z) (by decide)), if_neg (fun z => absurd (hd.2 3 1 (by decide) (by decide) z) (by decide)), if_neg (fun z => absurd (hd.2 3 2 (by decide) (by decide) z) (by decide)), if_pos rfl]
theorem mh_a4 {h0 : PH} {m : Nat} {ar : Nat → Nat} {σ : MS} (hd : md m ar) : mh h0 m ar σ (ar 4) = some (eI 60 (σ.1 4)) := by
  unfold mh
  rw [if_neg (hd.1 4 (by decide)), if_neg (fun z => absurd (hd.2 4 0 (by decide) (by decide) z) (by decide)), if_neg (fun z => absurd (hd.2 4 1 (by decide) (by decide) z) (by decide)), if_neg (fun z => absurd (hd.2 4 2 (by decide) (by decide) z) (by decide)), if_neg (fun z => absurd (hd.2 4 3 (by decide) (by decide) z) (by decide)), if_pos rfl]
theorem mh_a5 {h0 : PH} {m : Nat} {ar : Nat → Nat} {σ : MS} (hd : md m ar) : mh h0 m ar σ (ar 5) = some (eI 3 (σ.1 5)) := by
  unfold mh
  rw [if_neg (hd.1 5 (by decide)), if_neg (fun z => absurd (hd.2 5 0 (by decide) (by decide) z) (by decide)), if_neg (fun z => absurd (hd.2 5 1 (by decide) (by decide) z) (by decide)), if_neg (fun z => absurd (hd.2 5 2 (by decide) (by decide) z) (by decide)), if_neg (fun z => absurd (hd.2 5 3 (by decide) (by decide) z) (by decide)), if_neg (fun z => absurd (hd.2 5 4 (by decide) (by decide) z) (by decide)), if_pos rfl]
theorem mh_s0 {h0 : PH} {m : Nat} {ar : Nat → Nat} {σ : MS} (hd : md m ar) (f : Nat → Int32) : pu (mh h0 m ar σ) (ar 0) (eI 88 f) = mh h0 m ar (sA σ 0 f) := by
  funext q
  by_cases hq : q = ar 0
  · rw [hq, pu_s, mh_a0 hd, sA_s]
  · rw [pu_n hq]
    unfold mh
    by_cases hm : q = m
    · rw [if_pos hm, if_pos hm]; rfl
    · rw [if_neg hm, if_neg hm]
      rw [if_neg hq, if_neg hq]
      by_cases h1 : q = ar 1
      · rw [if_pos h1, if_pos h1, sA_n (by decide)]
      rw [if_neg h1, if_neg h1]
      by_cases h2 : q = ar 2
      · rw [if_pos h2, if_pos h2, sA_n (by decide)]
      rw [if_neg h2, if_neg h2]
      by_cases h3 : q = ar 3
      · rw [if_pos h3, if_pos h3, sA_n (by decide)]
      rw [if_neg h3, if_neg h3]
      by_cases h4 : q = ar 4
      · rw [if_pos h4, if_pos h4, sA_n (by decide)]
      rw [if_neg h4, if_neg h4]
      by_cases h5 : q = ar 5
      · rw [if_pos h5, if_pos h5, sA_n (by decide)]
      rw [if_neg h5, if_neg h5]
theorem mh_s1 {h0 : PH} {m : Nat} {ar : Nat → Nat} {σ : MS} (hd : md m ar) (f : Nat → Int32) : pu (mh h0 m ar σ) (ar 1) (eI 88 f) = mh h0 m ar (sA σ 1 f) := by
  funext q
  by_cases hq : q = ar 1
  · rw [hq, pu_s, mh_a1 hd, sA_s]
  · rw [pu_n hq]
    unfold mh
    by_cases hm : q = m
    · rw [if_pos hm, if_pos hm]; rfl
    · rw [if_neg hm, if_neg hm]
      by_cases h0 : q = ar 0
      · rw [if_pos h0, if_pos h0, sA_n (by decide)]
      rw [if_neg h0, if_neg h0]
      rw [if_neg hq, if_neg hq]
      by_cases h2 : q = ar 2
      · rw [if_pos h2, if_pos h2, sA_n (by decide)]
      rw [if_neg h2, if_neg h2]
      by_cases h3 : q = ar 3
      · rw [if_pos h3, if_pos h3, sA_n (by decide)]
      rw [if_neg h3, if_neg h3]
      by_cases h4 : q = ar 4
      · rw [if_pos h4, if_pos h4, sA_n (by decide)]
      rw [if_neg h4, if_neg h4]
      by_cases h5 : q = ar 5
      · rw [if_pos h5, if_pos h5, sA_n (by decide)]
      rw [if_neg h5, if_neg h5]
theorem mh_s2 {h0 : PH} {m : Nat} {ar : Nat → Nat} {σ : MS} (hd : md m ar) (f : Nat → Int32) : pu (mh h0 m ar σ) (ar 2) (eI 352 f) = mh h0 m ar (sA σ 2 f) := by
  funext q
  by_cases hq : q = ar 2
  · rw [hq, pu_s, mh_a2 hd, sA_s]
  · rw [pu_n hq]
    unfold mh
    by_cases hm : q = m
    · rw [if_pos hm, if_pos hm]; rfl
    · rw [if_neg hm, if_neg hm]
      by_cases h0 : q = ar 0
      · rw [if_pos h0, if_pos h0, sA_n (by decide)]
      rw [if_neg h0, if_neg h0]
      by_cases h1 : q = ar 1
      · rw [if_pos h1, if_pos h1, sA_n (by decide)]
      rw [if_neg h1, if_neg h1]
      rw [if_neg hq, if_neg hq]
      by_cases h3 : q = ar 3
      · rw [if_pos h3, if_pos h3, sA_n (by decide)]
      rw [if_neg h3, if_neg h3]
      by_cases h4 : q = ar 4
      · rw [if_pos h4, if_pos h4, sA_n (by decide)]
      rw [if_neg h4, if_neg h4]
      by_cases h5 : q = ar 5
      · rw [if_pos h5, if_pos h5, sA_n (by decide)]
      rw [if_neg h5, if_neg h5]
theorem mh_s3 {h0 : PH} {m : Nat} {ar : Nat → Nat} {σ : MS} (hd : md m ar) (f : Nat → Int32) : pu (mh h0 m ar σ) (ar 3) (eI 7 f) = mh h0 m ar (sA σ 3 f) := by
  funext q
  by_cases hq : q = ar 3
  · rw [hq, pu_s, mh_a3 hd, sA_s]
  · rw [pu_n hq]
    unfold mh
    by_cases hm : q = m
    · rw [if_pos hm, if_pos hm]; rfl
    · rw [if_neg hm, if_neg hm]
      by_cases h0 : q = ar 0
      · rw [if_pos h0, if_pos h0, sA_n (by decide)]
      rw [if_neg h0, if_neg h0]
      by_cases h1 : q = ar 1
      · rw [if_pos h1, if_pos h1, sA_n (by decide)]
      rw [if_neg h1, if_neg h1]
      by_cases h2 : q = ar 2
      · rw [if_pos h2, if_pos h2, sA_n (by decide)]
      rw [if_neg h2, if_neg h2]
      rw [if_neg hq, if_neg hq]
      by_cases h4 : q = ar 4
      · rw [if_pos h4, if_pos h4, sA_n (by decide)]
      rw [if_neg h4, if_neg h4]
      by_cases h5 : q = ar 5
      · rw [if_pos h5, if_pos h5, sA_n (by decide)]
      rw [if_neg h5, if_neg h5]
theorem mh_s4 {h0 : PH} {m : Nat} {ar : Nat → Nat} {σ : MS} (hd : md m ar) (f : Nat → Int32) : pu (mh h0 m ar σ) (ar 4) (eI 60 f) = mh h0 m ar (sA σ 4 f) := by
  funext q
  by_cases hq : q = ar 4
  · rw [hq, pu_s, mh_a4 hd, sA_s]
  · rw [pu_n hq]
    unfold mh
    by_cases hm : q = m
    · rw [if_pos hm, if_pos hm]; rfl
    · rw [if_neg hm, if_neg hm]
      by_cases h0 : q = ar 0
      · rw [if_pos h0, if_pos h0, sA_n (by decide)]
      rw [if_neg h0, if_neg h0]
      by_cases h1 : q = ar 1
      · rw [if_pos h1, if_pos h1, sA_n (by decide)]
      rw [if_neg h1, if_neg h1]
      by_cases h2 : q = ar 2
      · rw [if_pos h2, if_pos h2, sA_n (by decide)]
      rw [if_neg h2, if_neg h2]
      by_cases h3 : q = ar 3
      · rw [if_pos h3, if_pos h3, sA_n (by decide)]
      rw [if_neg h3, if_neg h3]
      rw [if_neg hq, if_neg hq]
      by_cases h5 : q = ar 5
      · rw [if_pos h5, if_pos h5, sA_n (by decide)]
      rw [if_neg h5, if_neg h5]
theorem mh_s5 {h0 : PH} {m : Nat} {ar : Nat → Nat} {σ : MS} (hd : md m ar) (f : Nat → Int32) : pu (mh h0 m ar σ) (ar 5) (eI 3 f) = mh h0 m ar (sA σ 5 f) := by
  funext q
  by_cases hq : q = ar 5
  · rw [hq, pu_s, mh_a5 hd, sA_s]
  · rw [pu_n hq]
    unfold mh
    by_cases hm : q = m
    · rw [if_pos hm, if_pos hm]; rfl
    · rw [if_neg hm, if_neg hm]
      by_cases h0 : q = ar 0
      · rw [if_pos h0, if_pos h0, sA_n (by decide)]
      rw [if_neg h0, if_neg h0]
      by_cases h1 : q = ar 1
      · rw [if_pos h1, if_pos h1, sA_n (by decide)]
      rw [if_neg h1, if_neg h1]
      by_cases h2 : q = ar 2
      · rw [if_pos h2, if_pos h2, sA_n (by decide)]
      rw [if_neg h2, if_neg h2]
      by_cases h3 : q = ar 3
      · rw [if_pos h3, if_pos h3, sA_n (by decide)]
      rw [if_neg h3, if_neg h3]
      by_cases h4 : q = ar 4
      · rw [if_pos h4, if_pos h4, sA_n (by decide)]
      rw [if_neg h4, if_neg h4]
      rw [if_neg hq, if_neg hq]
theorem mh_p {h0 : PH} {m : Nat} {ar : Nat → Nat} {σ τ : MS} {fs : List Value} (ha : τ.1 = σ.1) (hf : fs = mfs ar τ) : pu (mh h0 m ar σ) m (eo 8 fs) = mh h0 m ar τ := by
  subst hf
  funext q
  by_cases hq : q = m
  · rw [hq, pu_s, mh_m]
  · rw [pu_n hq]
    unfold mh
    rw [if_neg hq, if_neg hq, ha]
section MR
variable {l : Launch} {D : va_G} {cc : ByteArray} {nL : Nat} {rm : Room} {Γ : Cxt} {h0 : PH} {m : Nat} {ar : Nat → Nat} {σ : MS} {k n pc nx : Nat} {lv : List (Nat × Value)} {st : List Value}
theorem q1830 : (Jvm.Cond.fieldLink "LeadRacesModel" (7 : Nat) "LeadRacesModel" "all" "[I") ∈ lw_all := lw_g (lw_at lw_m8 82 rfl) rfl
theorem q1831 : (Jvm.Cond.fieldLink "LeadRacesModel" (13 : Nat) "LeadRacesModel" "kept" "[I") ∈ lw_all := lw_g (lw_at lw_m8 83 rfl) rfl
theorem q1832 : (Jvm.Cond.fieldLink "LeadRacesModel" (16 : Nat) "LeadRacesModel" "history" "[I") ∈ lw_all := lw_g (lw_at lw_m8 84 rfl) rfl
theorem q1833 : (Jvm.Cond.fieldLink "LeadRacesModel" (29 : Nat) "LeadRacesModel" "historyLong" "I") ∈ lw_all := lw_g (lw_at lw_m8 85 rfl) rfl
theorem q1834 : (Jvm.Cond.fieldLink "LeadRacesModel" (19 : Nat) "LeadRacesModel" "isOther" "[I") ∈ lw_all := lw_g (lw_at lw_m8 86 rfl) rfl
theorem q1835 : (Jvm.Cond.fieldLink "LeadRacesModel" (157 : Nat) "LeadRacesModel" "comesLane" "I") ∈ lw_all := lw_g (lw_at lw_m8 87 rfl) rfl
theorem q1836 : (Jvm.Cond.fieldLink "LeadRacesModel" (154 : Nat) "LeadRacesModel" "comesIn" "I") ∈ lw_all := lw_g (lw_at lw_m8 88 rfl) rfl
theorem q1837 : (Jvm.Cond.fieldLink "LeadRacesModel" (22 : Nat) "LeadRacesModel" "text" "[I") ∈ lw_all := lw_g (lw_at lw_m8 89 rfl) rfl
theorem q1838 : (Jvm.Cond.fieldLink "LeadRacesModel" (143 : Nat) "LeadRacesModel" "textLong" "I") ∈ lw_all := lw_g (lw_at lw_m8 90 rfl) rfl
theorem q1839 : (Jvm.Cond.fieldLink "LeadRacesModel" (188 : Nat) "LeadRacesModel" "from" "I") ∈ lw_all := lw_g (lw_at lw_m8 91 rfl) rfl
theorem q1840 : (Jvm.Cond.fieldLink "LeadRacesModel" (176 : Nat) "LeadRacesModel" "at" "I") ∈ lw_all := lw_g (lw_at lw_m8 92 rfl) rfl
theorem q1841 : (Jvm.Cond.fieldLink "LeadRacesModel" (25 : Nat) "LeadRacesModel" "number" "[I") ∈ lw_all := lw_g (lw_at lw_m8 93 rfl) rfl
theorem q1842 : (Jvm.Cond.fieldLink "LeadRacesModel" (211 : Nat) "LeadRacesModel" "done" "I") ∈ lw_all := lw_g (lw_at lw_m8 94 rfl) rfl
theorem q1843 : (Jvm.Cond.fieldLink "LeadRacesModel" (214 : Nat) "LeadRacesModel" "why" "I") ∈ lw_all := lw_g (lw_at lw_m8 95 rfl) rfl
theorem q1844 : (Jvm.Cond.fieldLink "LeadRacesModel" (217 : Nat) "LeadRacesModel" "cause" "I") ∈ lw_all := lw_g (lw_at lw_m8 96 rfl) rfl
theorem M_get_all (X : Cx l D cc RX3 nL rm Γ) (d : At cc pc (.getfield 7) 3 nx) (kk : J Γ (mh h0 m ar σ) k n nx lv (.ref (ar 0) :: st)) : J Γ (mh h0 m ar σ) k n pc lv (.ref m :: st) := J_get X (kf := 0) d mh_m rfl in_X3 rfl q1830 rfl rfl kk
theorem M_get_kept (X : Cx l D cc RX3 nL rm Γ) (d : At cc pc (.getfield 13) 3 nx) (kk : J Γ (mh h0 m ar σ) k n nx lv (.ref (ar 1) :: st)) : J Γ (mh h0 m ar σ) k n pc lv (.ref m :: st) := J_get X (kf := 1) d mh_m rfl in_X3 rfl q1831 rfl rfl kk
theorem M_get_history (X : Cx l D cc RX3 nL rm Γ) (d : At cc pc (.getfield 16) 3 nx) (kk : J Γ (mh h0 m ar σ) k n nx lv (.ref (ar 2) :: st)) : J Γ (mh h0 m ar σ) k n pc lv (.ref m :: st) := J_get X (kf := 2) d mh_m rfl in_X3 rfl q1832 rfl rfl kk
theorem M_get_historyLong (X : Cx l D cc RX3 nL rm Γ) (d : At cc pc (.getfield 29) 3 nx) (kk : J Γ (mh h0 m ar σ) k n nx lv (.int (σ.2 0) :: st)) : J Γ (mh h0 m ar σ) k n pc lv (.ref m :: st) := J_get X (kf := 3) d mh_m rfl in_X3 rfl q1833 rfl rfl kk
theorem M_put_historyLong (X : Cx l D cc RX3 nL rm Γ) {x : Int32} (d : At cc pc (.putfield 29) 3 nx) (kk : J Γ (mh h0 m ar (sV σ 0 x)) k n nx lv st) : J Γ (mh h0 m ar σ) k n pc lv (.int x :: .ref m :: st) := J_put X (kf := 3) (ty := .int) d mh_m rfl in_X3 tyX3_ok nmX3 rfl q1833 rfl rfl (by decide +kernel) rfl rfl rfl rfl (J_heap (mh_p (σ := σ) (τ := sV σ 0 x) rfl rfl) kk)
theorem M_get_isOther (X : Cx l D cc RX3 nL rm Γ) (d : At cc pc (.getfield 19) 3 nx) (kk : J Γ (mh h0 m ar σ) k n nx lv (.ref (ar 3) :: st)) : J Γ (mh h0 m ar σ) k n pc lv (.ref m :: st) := J_get X (kf := 4) d mh_m rfl in_X3 rfl q1834 rfl rfl kk
theorem M_get_comesLane (X : Cx l D cc RX3 nL rm Γ) (d : At cc pc (.getfield 157) 3 nx) (kk : J Γ (mh h0 m ar σ) k n nx lv (.int (σ.2 1) :: st)) : J Γ (mh h0 m ar σ) k n pc lv (.ref m :: st) := J_get X (kf := 5) d mh_m rfl in_X3 rfl q1835 rfl rfl kk
theorem M_put_comesLane (X : Cx l D cc RX3 nL rm Γ) {x : Int32} (d : At cc pc (.putfield 157) 3 nx) (kk : J Γ (mh h0 m ar (sV σ 1 x)) k n nx lv st) : J Γ (mh h0 m ar σ) k n pc lv (.int x :: .ref m :: st) := J_put X (kf := 5) (ty := .int) d mh_m rfl in_X3 tyX3_ok nmX3 rfl q1835 rfl rfl (by decide +kernel) rfl rfl rfl rfl (J_heap (mh_p (σ := σ) (τ := sV σ 1 x) rfl rfl) kk)
theorem M_get_comesIn (X : Cx l D cc RX3 nL rm Γ) (d : At cc pc (.getfield 154) 3 nx) (kk : J Γ (mh h0 m ar σ) k n nx lv (.int (σ.2 2) :: st)) : J Γ (mh h0 m ar σ) k n pc lv (.ref m :: st) := J_get X (kf := 6) d mh_m rfl in_X3 rfl q1836 rfl rfl kk
theorem M_put_comesIn (X : Cx l D cc RX3 nL rm Γ) {x : Int32} (d : At cc pc (.putfield 154) 3 nx) (kk : J Γ (mh h0 m ar (sV σ 2 x)) k n nx lv st) : J Γ (mh h0 m ar σ) k n pc lv (.int x :: .ref m :: st) := J_put X (kf := 6) (ty := .int) d mh_m rfl in_X3 tyX3_ok nmX3 rfl q1836 rfl rfl (by decide +kernel) rfl rfl rfl rfl (J_heap (mh_p (σ := σ) (τ := sV σ 2 x) rfl rfl) kk)
theorem M_get_text (X : Cx l D cc RX3 nL rm Γ) (d : At cc pc (.getfield 22) 3 nx) (kk : J Γ (mh h0 m ar σ) k n nx lv (.ref (ar 4) :: st)) : J Γ (mh h0 m ar σ) k n pc lv (.ref m :: st) := J_get X (kf := 7) d mh_m rfl in_X3 rfl q1837 rfl rfl kk
theorem M_get_textLong (X : Cx l D cc RX3 nL rm Γ) (d : At cc pc (.getfield 143) 3 nx) (kk : J Γ (mh h0 m ar σ) k n nx lv (.int (σ.2 3) :: st)) : J Γ (mh h0 m ar σ) k n pc lv (.ref m :: st) := J_get X (kf := 8) d mh_m rfl in_X3 rfl q1838 rfl rfl kk
theorem M_put_textLong (X : Cx l D cc RX3 nL rm Γ) {x : Int32} (d : At cc pc (.putfield 143) 3 nx) (kk : J Γ (mh h0 m ar (sV σ 3 x)) k n nx lv st) : J Γ (mh h0 m ar σ) k n pc lv (.int x :: .ref m :: st) := J_put X (kf := 8) (ty := .int) d mh_m rfl in_X3 tyX3_ok nmX3 rfl q1838 rfl rfl (by decide +kernel) rfl rfl rfl rfl (J_heap (mh_p (σ := σ) (τ := sV σ 3 x) rfl rfl) kk)
theorem M_get_from (X : Cx l D cc RX3 nL rm Γ) (d : At cc pc (.getfield 188) 3 nx) (kk : J Γ (mh h0 m ar σ) k n nx lv (.int (σ.2 4) :: st)) : J Γ (mh h0 m ar σ) k n pc lv (.ref m :: st) := J_get X (kf := 9) d mh_m rfl in_X3 rfl q1839 rfl rfl kk
theorem M_put_from (X : Cx l D cc RX3 nL rm Γ) {x : Int32} (d : At cc pc (.putfield 188) 3 nx) (kk : J Γ (mh h0 m ar (sV σ 4 x)) k n nx lv st) : J Γ (mh h0 m ar σ) k n pc lv (.int x :: .ref m :: st) := J_put X (kf := 9) (ty := .int) d mh_m rfl in_X3 tyX3_ok nmX3 rfl q1839 rfl rfl (by decide +kernel) rfl rfl rfl rfl (J_heap (mh_p (σ := σ) (τ := sV σ 4 x) rfl rfl) kk)
theorem M_get_at (X : Cx l D cc RX3 nL rm Γ) (d : At cc pc (.getfield 176) 3 nx) (kk : J Γ (mh h0 m ar σ) k n nx lv (.int (σ.2 5) :: st)) : J Γ (mh h0 m ar σ) k n pc lv (.ref m :: st) := J_get X (kf := 10) d mh_m rfl in_X3 rfl q1840 rfl rfl kk
theorem M_put_at (X : Cx l D cc RX3 nL rm Γ) {x : Int32} (d : At cc pc (.putfield 176) 3 nx) (kk : J Γ (mh h0 m ar (sV σ 5 x)) k n nx lv st) : J Γ (mh h0 m ar σ) k n pc lv (.int x :: .ref m :: st) := J_put X (kf := 10) (ty := .int) d mh_m rfl in_X3 tyX3_ok nmX3 rfl q1840 rfl rfl (by decide +kernel) rfl rfl rfl rfl (J_heap (mh_p (σ := σ) (τ := sV σ 5 x) rfl rfl) kk)
theorem M_get_number (X : Cx l D cc RX3 nL rm Γ) (d : At cc pc (.getfield 25) 3 nx) (kk : J Γ (mh h0 m ar σ) k n nx lv (.ref (ar 5) :: st)) : J Γ (mh h0 m ar σ) k n pc lv (.ref m :: st) := J_get X (kf := 11) d mh_m rfl in_X3 rfl q1841 rfl rfl kk
theorem M_get_done (X : Cx l D cc RX3 nL rm Γ) (d : At cc pc (.getfield 211) 3 nx) (kk : J Γ (mh h0 m ar σ) k n nx lv (.int (σ.2 6) :: st)) : J Γ (mh h0 m ar σ) k n pc lv (.ref m :: st) := J_get X (kf := 12) d mh_m rfl in_X3 rfl q1842 rfl rfl kk
theorem M_put_done (X : Cx l D cc RX3 nL rm Γ) {x : Int32} (d : At cc pc (.putfield 211) 3 nx) (kk : J Γ (mh h0 m ar (sV σ 6 x)) k n nx lv st) : J Γ (mh h0 m ar σ) k n pc lv (.int x :: .ref m :: st) := J_put X (kf := 12) (ty := .int) d mh_m rfl in_X3 tyX3_ok nmX3 rfl q1842 rfl rfl (by decide +kernel) rfl rfl rfl rfl (J_heap (mh_p (σ := σ) (τ := sV σ 6 x) rfl rfl) kk)
theorem M_get_why (X : Cx l D cc RX3 nL rm Γ) (d : At cc pc (.getfield 214) 3 nx) (kk : J Γ (mh h0 m ar σ) k n nx lv (.int (σ.2 7) :: st)) : J Γ (mh h0 m ar σ) k n pc lv (.ref m :: st) := J_get X (kf := 13) d mh_m rfl in_X3 rfl q1843 rfl rfl kk
theorem M_put_why (X : Cx l D cc RX3 nL rm Γ) {x : Int32} (d : At cc pc (.putfield 214) 3 nx) (kk : J Γ (mh h0 m ar (sV σ 7 x)) k n nx lv st) : J Γ (mh h0 m ar σ) k n pc lv (.int x :: .ref m :: st) := J_put X (kf := 13) (ty := .int) d mh_m rfl in_X3 tyX3_ok nmX3 rfl q1843 rfl rfl (by decide +kernel) rfl rfl rfl rfl (J_heap (mh_p (σ := σ) (τ := sV σ 7 x) rfl rfl) kk)
theorem M_get_cause (X : Cx l D cc RX3 nL rm Γ) (d : At cc pc (.getfield 217) 3 nx) (kk : J Γ (mh h0 m ar σ) k n nx lv (.int (σ.2 8) :: st)) : J Γ (mh h0 m ar σ) k n pc lv (.ref m :: st) := J_get X (kf := 14) d mh_m rfl in_X3 rfl q1844 rfl rfl kk
theorem M_put_cause (X : Cx l D cc RX3 nL rm Γ) {x : Int32} (d : At cc pc (.putfield 217) 3 nx) (kk : J Γ (mh h0 m ar (sV σ 8 x)) k n nx lv st) : J Γ (mh h0 m ar σ) k n pc lv (.int x :: .ref m :: st) := J_put X (kf := 14) (ty := .int) d mh_m rfl in_X3 tyX3_ok nmX3 rfl q1844 rfl rfl (by decide +kernel) rfl rfl rfl rfl (J_heap (mh_p (σ := σ) (τ := sV σ 8 x) rfl rfl) kk)
theorem M_ald_all (X : Cx l D cc RX3 nL rm Γ) (hd : md m ar) {j : Nat} (d : At cc pc .iaload 1 nx) (hj : j < 88) (kk : J Γ (mh h0 m ar σ) k n nx lv (.int (σ.1 0 j) :: st)) : J Γ (mh h0 m ar σ) k n pc lv (.int (nI j) :: .ref (ar 0) :: st) := J_iald X d (mh_a0 hd) hj (by decide) kk
theorem M_ast_all (X : Cx l D cc RX3 nL rm Γ) (hd : md m ar) {j : Nat} {x : Int32} (d : At cc pc .iastore 1 nx) (hj : j < 88) (kk : J Γ (mh h0 m ar (sA σ 0 (upd (σ.1 0) j x))) k n nx lv st) : J Γ (mh h0 m ar σ) k n pc lv (.int x :: .int (nI j) :: .ref (ar 0) :: st) := J_iast X d (mh_a0 hd) hj (by decide) (by rw [mh_s0 hd]; exact kk)
theorem M_ald_kept (X : Cx l D cc RX3 nL rm Γ) (hd : md m ar) {j : Nat} (d : At cc pc .iaload 1 nx) (hj : j < 88) (kk : J Γ (mh h0 m ar σ) k n nx lv (.int (σ.1 1 j) :: st)) : J Γ (mh h0 m ar σ) k n pc lv (.int (nI j) :: .ref (ar 1) :: st) := J_iald X d (mh_a1 hd) hj (by decide) kk
theorem M_ast_kept (X : Cx l D cc RX3 nL rm Γ) (hd : md m ar) {j : Nat} {x : Int32} (d : At cc pc .iastore 1 nx) (hj : j < 88) (kk : J Γ (mh h0 m ar (sA σ 1 (upd (σ.1 1) j x))) k n nx lv st) : J Γ (mh h0 m ar σ) k n pc lv (.int x :: .int (nI j) :: .ref (ar 1) :: st) := J_iast X d (mh_a1 hd) hj (by decide) (by rw [mh_s1 hd]; exact kk)
theorem M_ald_history (X : Cx l D cc RX3 nL rm Γ) (hd : md m ar) {j : Nat} (d : At cc pc .iaload 1 nx) (hj : j < 352) (kk : J Γ (mh h0 m ar σ) k n nx lv (.int (σ.1 2 j) :: st)) : J Γ (mh h0 m ar σ) k n pc lv (.int (nI j) :: .ref (ar 2) :: st) := J_iald X d (mh_a2 hd) hj (by decide) kk
theorem M_ast_history (X : Cx l D cc RX3 nL rm Γ) (hd : md m ar) {j : Nat} {x : Int32} (d : At cc pc .iastore 1 nx) (hj : j < 352) (kk : J Γ (mh h0 m ar (sA σ 2 (upd (σ.1 2) j x))) k n nx lv st) : J Γ (mh h0 m ar σ) k n pc lv (.int x :: .int (nI j) :: .ref (ar 2) :: st) := J_iast X d (mh_a2 hd) hj (by decide) (by rw [mh_s2 hd]; exact kk)
theorem M_ald_isOther (X : Cx l D cc RX3 nL rm Γ) (hd : md m ar) {j : Nat} (d : At cc pc .iaload 1 nx) (hj : j < 7) (kk : J Γ (mh h0 m ar σ) k n nx lv (.int (σ.1 3 j) :: st)) : J Γ (mh h0 m ar σ) k n pc lv (.int (nI j) :: .ref (ar 3) :: st) := J_iald X d (mh_a3 hd) hj (by decide) kk
theorem M_ast_isOther (X : Cx l D cc RX3 nL rm Γ) (hd : md m ar) {j : Nat} {x : Int32} (d : At cc pc .iastore 1 nx) (hj : j < 7) (kk : J Γ (mh h0 m ar (sA σ 3 (upd (σ.1 3) j x))) k n nx lv st) : J Γ (mh h0 m ar σ) k n pc lv (.int x :: .int (nI j) :: .ref (ar 3) :: st) := J_iast X d (mh_a3 hd) hj (by decide) (by rw [mh_s3 hd]; exact kk)
theorem M_ald_text (X : Cx l D cc RX3 nL rm Γ) (hd : md m ar) {j : Nat} (d : At cc pc .iaload 1 nx) (hj : j < 60) (kk : J Γ (mh h0 m ar σ) k n nx lv (.int (σ.1 4 j) :: st)) : J Γ (mh h0 m ar σ) k n pc lv (.int (nI j) :: .ref (ar 4) :: st) := J_iald X d (mh_a4 hd) hj (by decide) kk
theorem M_ast_text (X : Cx l D cc RX3 nL rm Γ) (hd : md m ar) {j : Nat} {x : Int32} (d : At cc pc .iastore 1 nx) (hj : j < 60) (kk : J Γ (mh h0 m ar (sA σ 4 (upd (σ.1 4) j x))) k n nx lv st) : J Γ (mh h0 m ar σ) k n pc lv (.int x :: .int (nI j) :: .ref (ar 4) :: st) := J_iast X d (mh_a4 hd) hj (by decide) (by rw [mh_s4 hd]; exact kk)
theorem M_ald_number (X : Cx l D cc RX3 nL rm Γ) (hd : md m ar) {j : Nat} (d : At cc pc .iaload 1 nx) (hj : j < 3) (kk : J Γ (mh h0 m ar σ) k n nx lv (.int (σ.1 5 j) :: st)) : J Γ (mh h0 m ar σ) k n pc lv (.int (nI j) :: .ref (ar 5) :: st) := J_iald X d (mh_a5 hd) hj (by decide) kk
theorem M_ast_number (X : Cx l D cc RX3 nL rm Γ) (hd : md m ar) {j : Nat} {x : Int32} (d : At cc pc .iastore 1 nx) (hj : j < 3) (kk : J Γ (mh h0 m ar (sA σ 5 (upd (σ.1 5) j x))) k n nx lv st) : J Γ (mh h0 m ar σ) k n pc lv (.int x :: .int (nI j) :: .ref (ar 5) :: st) := J_iast X d (mh_a5 hd) hj (by decide) (by rw [mh_s5 hd]; exact kk)
end MR
