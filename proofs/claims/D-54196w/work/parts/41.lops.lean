/-! LinkedList's operations over the relation LLf -/
set_option maxRecDepth 100000
def upN (f : Nat → Nat) (n q : Nat) : Nat → Nat := fun i => if i = n then q else f i
theorem upN_s (f : Nat → Nat) (n q : Nat) : upN f n q n = q := if_pos rfl
theorem upN_n {f : Nat → Nat} {n q i : Nat} (h : i ≠ n) : upN f n q i = f i := if_neg h
theorem LLf.ne {h : PH} {a : Nat} {md : Int32} {n : Nat} {nd it : Nat → Nat} (hl : LLf h a md n nd it) {i : Nat} (hi : i < n) : nd i ≠ a := ne_c (hl.2.1 i hi) hl.1 (by decide)
/-- what addLast leaves -/
theorem LLf.snoc {h h' : PH} {a : Nat} {md md' : Int32} {n q x : Nat} {nd it : Nat → Nat} (hl : LLf h a md n nd it) (hq : h q = none)
    (e1 : h' a = some (eo 3 [.int md', .int (nI (n + 1)), va_rf (lfst (n + 1) (upN nd n q)), va_rf (some q)]))
    (e2 : h' q = some (eo 12 [.ref x, va_rf none, va_rf (llst n nd)]))
    (e3 : ∀ i, i + 1 < n → h' (nd i) = h (nd i))
    (e4 : ∀ i, i + 1 = n → h' (nd i) = some (eo 12 [.ref (it i), va_rf (some q), va_rf (lprv nd i)])) : LLf h' a md' (n + 1) (upN nd n q) (upN it n x) := by
  have hnq : ∀ i, i < n → nd i ≠ q := fun i hi => ne_f (hl.2.1 i hi) hq
  refine ⟨?_, ?_, ?_⟩
  · rw [e1]
    unfold llst
    rw [if_neg (by omega), show n + 1 - 1 = n by omega, upN_s]
  · intro i hi
    by_cases hin : i = n
    · subst hin
      rw [upN_s, upN_s, e2]
      have z1 : lnxt (i + 1) (upN nd i q) i = none := if_neg (by omega)
      have z2 : lprv (upN nd i q) i = llst i nd := by
        unfold lprv llst
        by_cases h0 : i = 0
        · rw [if_pos h0, if_pos h0]
        · rw [if_neg h0, if_neg h0, upN_n (by omega)]
      rw [z1, z2]
    · rw [upN_n hin, upN_n hin]
      have z2 : lprv (upN nd n q) i = lprv nd i := by
        unfold lprv
        by_cases h0 : i = 0
        · rw [if_pos h0, if_pos h0]
        · rw [if_neg h0, if_neg h0, upN_n (by omega)]
      rw [z2]
      by_cases hl1 : i + 1 = n
      · rw [e4 i hl1]
        have z1 : lnxt (n + 1) (upN nd n q) i = some q := by
          unfold lnxt
          rw [if_pos (by omega), hl1, upN_s]
        rw [z1]
      · rw [e3 i (by omega), hl.2.1 i (by omega)]
        have z1 : lnxt (n + 1) (upN nd n q) i = lnxt n nd i := by
          unfold lnxt
          rw [if_pos (by omega), if_pos (by omega), upN_n hl1]
        rw [z1]
  · intro i j hi hj hij
    by_cases h1 : i = n
    · by_cases h2 : j = n
      · omega
      · subst h1
        rw [upN_s, upN_n h2] at hij
        exact absurd hij.symm (hnq j (by omega))
    · by_cases h2 : j = n
      · subst h2
        rw [upN_s, upN_n h1] at hij
        exact absurd hij (hnq i (by omega))
      · rw [upN_n h1, upN_n h2] at hij
        exact hl.2.2 i j (by omega) (by omega) hij
theorem rf_s {r : Option Nat} {a : Nat} (h : r = some a) : va_rf r = .ref a := by rw [h]; rfl
theorem LLf.z {h : PH} {a : Nat} {md : Int32} {n : Nat} {nd it : Nat → Nat} (hl : LLf h a md n nd it) (hn : n ≠ 0) : h a = some (eo 3 [.int md, .int (nI n), .ref (nd 0), .ref (nd (n - 1))]) := by
  have := hl.1
  unfold lfst llst at this
  rw [if_neg hn, if_neg hn] at this
  exact this
theorem LLf.last {h : PH} {a : Nat} {md : Int32} {n : Nat} {nd it : Nat → Nat} (hl : LLf h a md n nd it) (hn : n ≠ 0) : h (nd (n - 1)) = some (eo 12 [.ref (it (n - 1)), .null, va_rf (lprv nd (n - 1))]) := by
  have := hl.2.1 (n - 1) (by omega)
  unfold lnxt at this
  rw [if_neg (by omega)] at this
  exact this
theorem LLf.first {h : PH} {a : Nat} {md : Int32} {n : Nat} {nd it : Nat → Nat} (hl : LLf h a md n nd it) (hn : n ≠ 0) : h (nd 0) = some (eo 12 [.ref (it 0), va_rf (lnxt n nd 0), .null]) := by
  have := hl.2.1 0 (by omega)
  unfold lprv at this
  rw [if_pos rfl] at this
  exact this
def PLadd (h : PH) (a : Nat) (md : Int32) (n : Nat) (nd it : Nat → Nat) (x : Nat) : Option Value → PH → Prop := fun v h' => v = none ∧ ∃ q, h q = none ∧ LLf h' a (md + nI 1) (n + 1) (upN nd n q) (upN it n x) ∧ Fr (Lfp a n nd) h h'
theorem c_LLadd (l : Launch) (D : va_G) (h : PH) {a x n : Nat} {md : Int32} {nd it : Nat → Nat} (hl : LLf h a md n nd it) : Ct l D yJ4_addLast cJ4_addLast 2 none (rmC 3 66 1 3) [.ref a, .ref x] h (PLadd h a md n nd it x) := by
  by_cases hn : n = 0
  · subst hn
    refine (c_LLalE l D h (a := a) (x := x) (md := md) hl.1).mono ?_
    rintro v h' ⟨q, hq, rfl, rfl⟩
    refine ⟨rfl, q, hq, hl.snoc hq ?_ ?_ (fun i hi => by omega) (fun i hi => by omega), ?_⟩
    · rw [pu_s]; rfl
    · exact pu_o (Ne.symm (ne_f hl.1 hq)) (pu_s _ _ _)
    · exact (Fr.pu (Or.inr hq)).trans (Fr.pu (Or.inl (Or.inl rfl)))
  · have hz := hl.last hn
    refine (c_LLalS l D h (a := a) (x := x) (md := md) (hl.z hn) hz).mono ?_
    rintro v h' ⟨q, hq, rfl, rfl⟩
    have hqa := Ne.symm (ne_f hl.1 hq)
    have hqz := Ne.symm (ne_f hz hq)
    have hza := hl.ne (i := n - 1) (by omega)
    refine ⟨rfl, q, hq, hl.snoc hq ?_ ?_ (fun i hi => ?_) (fun i hi => ?_), ?_⟩
    · rw [pu_s]
      unfold lfst
      rw [if_neg (by omega), upN_n (by omega)]
      rfl
    · refine pu_o hqa (pu_o hqz ?_)
      rw [pu_s]
      unfold llst
      rw [if_neg hn]
    · rw [pu_n (hl.ne (by omega)), pu_n (fun z => absurd (hl.2.2 _ _ (by omega) (by omega) z) (by omega)), pu_n (ne_f (hl.2.1 i (by omega)) hq)]
    · obtain rfl : i = n - 1 := by omega
      exact pu_o hza (pu_s _ _ _)
    · exact ((Fr.pu (Or.inr hq)).trans (Fr.pu (Or.inl (Or.inr ⟨n - 1, by omega, rfl⟩)))).trans (Fr.pu (Or.inl (Or.inl rfl)))
def cnN (f : Nat → Nat) (q : Nat) : Nat → Nat := fun i => if i = 0 then q else f (i - 1)
theorem cnN_0 (f : Nat → Nat) (q : Nat) : cnN f q 0 = q := if_pos rfl
theorem cnN_s (f : Nat → Nat) (q i : Nat) : cnN f q (i + 1) = f i := by
  unfold cnN
  rw [if_neg (by omega)]
  rfl
/-- what addFirst leaves -/
theorem LLf.cons {h h' : PH} {a : Nat} {md md' : Int32} {n q x : Nat} {nd it : Nat → Nat} (hl : LLf h a md n nd it) (hq : h q = none)
    (e1 : h' a = some (eo 3 [.int md', .int (nI (n + 1)), .ref q, va_rf (llst (n + 1) (cnN nd q))]))
    (e2 : h' q = some (eo 12 [.ref x, va_rf (lfst n nd), va_rf none]))
    (e3 : ∀ i, 0 < i → i < n → h' (nd i) = h (nd i))
    (e4 : 0 < n → h' (nd 0) = some (eo 12 [.ref (it 0), va_rf (lnxt n nd 0), va_rf (some q)])) : LLf h' a md' (n + 1) (cnN nd q) (cnN it x) := by
  have hnq : ∀ i, i < n → nd i ≠ q := fun i hi => ne_f (hl.2.1 i hi) hq
  have zn : ∀ i, lnxt (n + 1) (cnN nd q) (i + 1) = lnxt n nd i := by
    intro i
    unfold lnxt
    by_cases hc : i + 1 < n
    · rw [if_pos (by omega), if_pos hc, cnN_s]
    · rw [if_neg (by omega), if_neg hc]
  refine ⟨?_, ?_, ?_⟩
  · rw [e1]
    unfold lfst
    rw [if_neg (by omega), cnN_0]
    rfl
  · intro i hi
    cases i with
    | zero =>
      rw [cnN_0, cnN_0, e2]
      have z1 : lnxt (n + 1) (cnN nd q) 0 = lfst n nd := by
        unfold lnxt lfst
        by_cases hc : n = 0
        · rw [if_neg (by omega), if_pos hc]
        · rw [if_pos (by omega), if_neg hc, cnN_s]
      rw [z1]
      rfl
    | succ i =>
      rw [cnN_s, cnN_s, zn]
      have z2 : lprv (cnN nd q) (i + 1) = some (cnN nd q i) := by
        unfold lprv
        rw [if_neg (by omega)]
        rfl
      rw [z2]
      cases i with
      | zero => rw [e4 (by omega), cnN_0]
      | succ j =>
        rw [e3 (j + 1) (by omega) (by omega), hl.2.1 (j + 1) (by omega), cnN_s]
        have z3 : lprv nd (j + 1) = some (nd j) := by
          unfold lprv
          rw [if_neg (by omega)]
          rfl
        rw [z3]
  · intro i j hi hj hij
    cases i with
    | zero =>
      cases j with
      | zero => rfl
      | succ j => rw [cnN_0, cnN_s] at hij; exact absurd hij.symm (hnq j (by omega))
    | succ i =>
      cases j with
      | zero => rw [cnN_0, cnN_s] at hij; exact absurd hij (hnq i (by omega))
      | succ j =>
        rw [cnN_s, cnN_s] at hij
        have := hl.2.2 i j (by omega) (by omega) hij
        omega
def PLfst (h : PH) (a : Nat) (md : Int32) (n : Nat) (nd it : Nat → Nat) (x : Nat) : Option Value → PH → Prop := fun v h' => v = none ∧ ∃ q, h q = none ∧ LLf h' a (md + nI 1) (n + 1) (cnN nd q) (cnN it x) ∧ Fr (Lfp a n nd) h h'
theorem c_LLfst (l : Launch) (D : va_G) (h : PH) {a x n : Nat} {md : Int32} {nd it : Nat → Nat} (hl : LLf h a md n nd it) : Ct l D yJ4_addFirst cJ4_addFirst 2 none (rmC 3 66 1 3) [.ref a, .ref x] h (PLfst h a md n nd it x) := by
  by_cases hn : n = 0
  · subst hn
    refine (c_LLafE l D h (a := a) (x := x) (md := md) hl.1).mono ?_
    rintro v h' ⟨q, hq, rfl, rfl⟩
    refine ⟨rfl, q, hq, hl.cons hq ?_ ?_ (fun i _ hi => by omega) (fun hi => by omega), ?_⟩
    · rw [pu_s]; rfl
    · exact pu_o (Ne.symm (ne_f hl.1 hq)) (pu_s _ _ _)
    · exact (Fr.pu (Or.inr hq)).trans (Fr.pu (Or.inl (Or.inl rfl)))
  · have hz := hl.first hn
    refine (c_LLafS l D h (a := a) (x := x) (md := md) (hl.z hn) hz).mono ?_
    rintro v h' ⟨q, hq, rfl, rfl⟩
    have hqa := Ne.symm (ne_f hl.1 hq)
    have hqz := Ne.symm (ne_f hz hq)
    have hza := hl.ne (i := 0) (by omega)
    refine ⟨rfl, q, hq, hl.cons hq ?_ ?_ (fun i h0 hi => ?_) (fun hi => ?_), ?_⟩
    · rw [pu_s]
      have z1 : llst (n + 1) (cnN nd q) = some (nd (n - 1)) := by
        unfold llst
        obtain ⟨j, rfl⟩ : ∃ j, n = j + 1 := ⟨n - 1, by omega⟩
        rw [if_neg (by omega), show j + 1 + 1 - 1 = j + 1 by omega, cnN_s]
        rfl
      rw [z1]
      rfl
    · refine pu_o hqa (pu_o hqz ?_)
      rw [pu_s]
      unfold lfst
      rw [if_neg hn]
    · rw [pu_n (hl.ne (by omega)), pu_n (fun z => absurd (hl.2.2 _ _ (by omega) (by omega) z) (by omega)), pu_n (ne_f (hl.2.1 i (by omega)) hq)]
    · exact pu_o hza (pu_s _ _ _)
    · exact ((Fr.pu (Or.inr hq)).trans (Fr.pu (Or.inl (Or.inr ⟨0, by omega, rfl⟩)))).trans (Fr.pu (Or.inl (Or.inl rfl)))
/-- what removeLast leaves, of two nodes or more -/
theorem c_LLrml (l : Launch) (D : va_G) (h : PH) {a n : Nat} {md : Int32} {nd it : Nat → Nat} (hl : LLf h a md (n + 2) nd it) : Ct l D yJ4_removeLast cJ4_removeLast 2 (some (.object "java/lang/Object")) (rmC 1 23 0 0) [.ref a] h (fun v h' => v = some (.ref (it (n + 1))) ∧ LLf h' a (md + nI 1) (n + 1) nd it ∧ Fr (Lfp a (n + 2) nd) h h') := by
  have hz := hl.last (by omega)
  rw [show n + 2 - 1 = n + 1 by omega] at hz
  have z1 : lprv nd (n + 1) = some (nd n) := by
    unfold lprv
    rw [if_neg (by omega)]
    rfl
  rw [z1] at hz
  have hp := hl.2.1 n (by omega)
  have z2 : lnxt (n + 2) nd n = some (nd (n + 1)) := by
    unfold lnxt
    rw [if_pos (by omega)]
  rw [z2] at hp
  have hpz : nd n ≠ nd (n + 1) := fun z => absurd (hl.2.2 _ _ (by omega) (by omega) z) (by omega)
  have ha := hl.1
  have z3 : llst (n + 2) nd = some (nd (n + 1)) := by
    unfold llst
    rw [if_neg (by omega)]
    rfl
  rw [z3] at ha
  refine (c_LLrl l D h (a := a) (md := md) ha hz hp (by omega) hpz).mono ?_
  rintro v h' ⟨rfl, rfl⟩
  have na : ∀ i, i < n + 2 → nd i ≠ a := fun i hi => hl.ne hi
  refine ⟨rfl, ⟨?_, fun i hi => ?_, fun i j hi hj hij => hl.2.2 i j (by omega) (by omega) hij⟩, ?_⟩
  · rw [pu_s]
    have z4 : lfst (n + 2) nd = lfst (n + 1) nd := by
      unfold lfst
      rw [if_neg (by omega), if_neg (by omega)]
    have z5 : llst (n + 1) nd = some (nd n) := by
      unfold llst
      rw [if_neg (by omega)]
      rfl
    rw [z4, z5]
    rfl
  · rw [pu_n (na i (by omega))]
    by_cases hin : i = n
    · subst hin
      rw [pu_s]
      have z6 : lnxt (i + 1) nd i = none := if_neg (by omega)
      rw [z6]
      rfl
    · rw [pu_n (fun z => hin (hl.2.2 _ _ (by omega) (by omega) z)), pu_n (fun z => absurd (hl.2.2 _ _ (by omega) (by omega) z) (by omega)), hl.2.1 i (by omega)]
      have z6 : lnxt (n + 1) nd i = lnxt (n + 2) nd i := by
        unfold lnxt
        rw [if_pos (by omega), if_pos (by omega)]
      rw [z6]
  · exact ((Fr.pu (Or.inl (Or.inr ⟨n + 1, by omega, rfl⟩))).trans (Fr.pu (Or.inl (Or.inr ⟨n, by omega, rfl⟩)))).trans (Fr.pu (Or.inl (Or.inl rfl)))
/-- what pollFirst leaves -/
theorem c_LLpop (l : Launch) (D : va_G) (h : PH) {a n : Nat} {md : Int32} {nd it : Nat → Nat} (hl : LLf h a md (n + 1) nd it) : Ct l D yJ4_pollFirst cJ4_pollFirst 2 (some (.object "java/lang/Object")) (rmC 1 23 0 0) [.ref a] h (fun v h' => v = some (.ref (it 0)) ∧ LLf h' a (md + nI 1) n (fun i => nd (i + 1)) (fun i => it (i + 1)) ∧ Fr (Lfp a (n + 1) nd) h h') := by
  have hf := hl.first (by omega)
  have ha : h a = some (eo 3 [.int md, .int (nI (n + 1)), .ref (nd 0), va_rf (llst (n + 1) nd)]) := by
    have := hl.1
    unfold lfst at this
    rw [if_neg (by omega)] at this
    exact this
  cases n with
  | zero =>
    have z1 : lnxt (0 + 1) nd 0 = none := if_neg (by omega)
    rw [z1] at hf
    refine (c_LLpf1 l D h (a := a) (md := md) (pf := none) ha hf (by omega)).mono ?_
    rintro v h' ⟨rfl, rfl⟩
    refine ⟨rfl, ⟨?_, fun i hi => by omega, fun i j hi => by omega⟩, ?_⟩
    · rw [pu_s]; rfl
    · exact (Fr.pu (Or.inl (Or.inr ⟨0, by omega, rfl⟩))).trans (Fr.pu (Or.inl (Or.inl rfl)))
  | succ n =>
    have z1 : lnxt (n + 1 + 1) nd 0 = some (nd 1) := if_pos (by omega)
    rw [z1] at hf
    have hg := hl.2.1 1 (by omega)
    have z2 : lprv nd 1 = some (nd 0) := if_neg (by omega)
    rw [z2] at hg
    have hgf : nd 1 ≠ nd 0 := fun z => absurd (hl.2.2 _ _ (by omega) (by omega) z) (by omega)
    refine (c_LLpf2 l D h (a := a) (md := md) (pf := none) ha hf hg (by omega) hgf).mono ?_
    rintro v h' ⟨rfl, rfl⟩
    have na : ∀ i, i < n + 1 + 1 → nd i ≠ a := fun i hi => hl.ne hi
    refine ⟨rfl, ⟨?_, fun i hi => ?_, fun i j hi hj hij => ?_⟩, ?_⟩
    · rw [pu_s]
      have z3 : llst (n + 1 + 1) nd = llst (n + 1) (fun i => nd (i + 1)) := by
        unfold llst
        rw [if_neg (by omega), if_neg (by omega)]
        rfl
      rw [z3]
      rfl
    · show pu _ a _ (nd (i + 1)) = _
      rw [pu_n (na _ (by omega))]
      have z4 : lnxt (n + 1) (fun i => nd (i + 1)) i = lnxt (n + 1 + 1) nd (i + 1) := by
        unfold lnxt
        by_cases hc : i + 1 < n + 1
        · rw [if_pos hc, if_pos (by omega)]
        · rw [if_neg hc, if_neg (by omega)]
      rw [z4]
      cases i with
      | zero => rw [pu_s]; rfl
      | succ i =>
        rw [pu_n (fun z => absurd (hl.2.2 _ _ (by omega) (by omega) z) (by omega)), pu_n (fun z => absurd (hl.2.2 _ _ (by omega) (by omega) z) (by omega)), hl.2.1 _ (by omega)]
        have z5 : lprv nd (i + 1 + 1) = lprv (fun i => nd (i + 1)) (i + 1) := by
          unfold lprv
          rw [if_neg (by omega), if_neg (by omega)]
          rfl
        rw [z5]
    · have := hl.2.2 _ _ (by omega) (by omega) hij
      omega
    · exact ((Fr.pu (Or.inl (Or.inr ⟨0, by omega, rfl⟩))).trans (Fr.pu (Or.inl (Or.inr ⟨1, by omega, rfl⟩)))).trans (Fr.pu (Or.inl (Or.inl rfl)))
