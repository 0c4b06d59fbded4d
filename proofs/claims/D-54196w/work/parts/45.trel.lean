/-! a track's leads and what the cells say of the reference's row -/
set_option maxRecDepth 100000
def Tl (b h : PH) (d : Nat) (a : Nat → Int32) : Prop := ∃ (md : Int32) (n : Nat) (nd it : Nat → Nat), LLf h d md n nd it ∧ n ≤ 8 ∧ a 84 = nI n ∧ (∀ i, i < n → h (it i) = some (eo 11 [.int (a (68 + (n - 1 - i))), .int (a (76 + (n - 1 - i)))])) ∧ b d = none ∧ ∀ i, i < n → b (nd i) = none
section TL
variable {b h h' : PH} {d : Nat} {a a' : Nat → Int32}
theorem Tl.keep (H : Tl b h d a) (hk : Kp kList h h') : Tl b h' d a := by
  obtain ⟨md, n, nd, it, h1, h2, h3, h4, h5, h6⟩ := H
  exact ⟨md, n, nd, it, h1.kept hk, h2, h3, fun i hi => hk _ _ (h4 i hi) rfl, h5, h6⟩
theorem Tl.row (H : Tl b h d a) (h84 : a' 84 = a 84) (hr : ∀ k, 68 ≤ k → k < 84 → a' k = a k) : Tl b h d a' := by
  obtain ⟨md, n, nd, it, h1, h2, h3, h4, h5, h6⟩ := H
  refine ⟨md, n, nd, it, h1, h2, by rw [h84]; exact h3, fun i hi => ?_, h5, h6⟩
  rw [hr _ (by omega) (by omega), hr _ (by omega) (by omega)]
  exact h4 i hi
theorem Tl.base {b' : PH} (H : Tl b h d a) (hb : Ext b' b) : Tl b' h d a := by
  obtain ⟨md, n, nd, it, h1, h2, h3, h4, h5, h6⟩ := H
  exact ⟨md, n, nd, it, h1, h2, h3, h4, hb.no h5, fun i hi => hb.no (h6 i hi)⟩
theorem Tl.more {o : Nat} {e : va_E} (H : Tl b h d a) (ho : h o = some e) (hk : kList (kd e) = false) : Tl (pu b o e) h d a := by
  obtain ⟨md, n, nd, it, h1, h2, h3, h4, h5, h6⟩ := H
  have key : ∀ q e', h q = some e' → kList (kd e') = true → b q = none → pu b o e q = none := by
    intro q e' hq hp hb
    refine pu_on ?_ hb
    rintro rfl
    rw [hq] at ho
    rw [Option.some.inj ho, hk] at hp
    cases hp
  exact ⟨md, n, nd, it, h1, h2, h3, h4, key _ _ h1.1 rfl h5, fun i hi => key _ _ (h1.2.1 i hi) rfl (h6 i hi)⟩
/-- what a list operation leaves alone -/
theorem Fr.kept {a n : Nat} {md : Int32} {nd it : Nat → Nat} (hf : Fr (Lfp a n nd) h h') (hl : LLf h a md n nd it) (P : Nat → Bool) (h3 : P 3 = false) (h12 : P 12 = false) : Kp P h h' := by
  intro q e hq hp
  refine hf q e hq ?_
  rintro (rfl | ⟨i, hi, rfl⟩)
  · rw [hl.1] at hq
    rw [← Option.some.inj hq] at hp
    exact absurd (hp.symm.trans h3) (by decide)
  · rw [hl.2.1 i hi] at hq
    rw [← Option.some.inj hq] at hp
    exact absurd (hp.symm.trans h12) (by decide)
theorem Fr.ext {a n : Nat} {nd : Nat → Nat} (hf : Fr (Lfp a n nd) h h') (hx : Ext b h) (ha : b a = none) (hn : ∀ i, i < n → b (nd i) = none) : Ext b h' := by
  intro q e hq
  refine hf q e (hx q e hq) ?_
  rintro (rfl | ⟨i, hi, rfl⟩)
  · rw [ha] at hq; cases hq
  · rw [hn i hi] at hq; cases hq
end TL
theorem m_sh_in (a : Nat → Int32) : ∀ i, i ≤ 7 → ∀ k, k < 8 → m_sh a i (68 + k) = (if k < i then a (68 + k + 1) else a (68 + k)) ∧ m_sh a i (76 + k) = (if k < i then a (76 + k + 1) else a (76 + k))
  | 0, _, k, _ => by rw [if_neg (by omega), if_neg (by omega)]; exact ⟨rfl, rfl⟩
  | i + 1, hi, k, hk => by
    have h1 := m_sh_in a i (by omega)
    have e1 : m_sh a i (68 + i + 1) = a (68 + i + 1) := by rw [show 68 + i + 1 = 68 + (i + 1) by omega, (h1 (i + 1) (by omega)).1, if_neg (by omega)]
    have e2 : m_sh a i (76 + i + 1) = a (76 + i + 1) := by rw [show 76 + i + 1 = 76 + (i + 1) by omega, (h1 (i + 1) (by omega)).2, if_neg (by omega)]
    have e0 : m_sh a (i + 1) = upd (upd (m_sh a i) (68 + i) (a (68 + i + 1))) (76 + i) (a (76 + i + 1)) := by rw [m_sh, e1, e2]
    rw [e0]
    constructor
    · rw [pk_un (by omega)]
      by_cases hki : k = i
      · subst hki
        rw [pk_us, if_pos (by omega)]
      · rw [pk_un (by omega), (h1 k hk).1]
        by_cases hlt : k < i
        · rw [if_pos hlt, if_pos (by omega)]
        · rw [if_neg hlt, if_neg (by omega)]
    · by_cases hki : k = i
      · subst hki
        rw [pk_us, if_pos (by omega)]
      · rw [pk_un (by omega), pk_un (by omega), (h1 k hk).2]
        by_cases hlt : k < i
        · rw [if_pos hlt, if_pos (by omega)]
        · rw [if_neg hlt, if_neg (by omega)]
theorem m_ap0_at {a : Nat → Int32} {c k : Nat} (hc : c ≤ 7) (hk : k < 8) : m_ap0 a c (68 + k) = (if k = c then a 39 else a (68 + k)) ∧ m_ap0 a c (76 + k) = (if k = c then a 0 else a (76 + k)) := by
  unfold m_ap0
  constructor
  · rw [pk_un (by omega), pk_un (by omega), pk_un (by omega)]
    by_cases h : k = c
    · rw [if_pos h, h, pk_us]
    · rw [if_neg h, pk_un (by omega)]
  · rw [pk_un (by omega), pk_un (by omega)]
    by_cases h : k = c
    · rw [if_pos h, h, pk_us]
    · rw [if_neg h, pk_un (by omega), pk_un (by omega)]
theorem m_ap0_85 {a : Nat → Int32} {c : Nat} : m_ap0 a c 85 = a 85 + 1 := by unfold m_ap0; rw [pk_us]
theorem m_append_lt {a : Nat → Int32} {n k : Nat} (hn : n < 8) (hk : k < 8) : m_append a n (68 + k) = (if k = n then a 39 else a (68 + k)) ∧ m_append a n (76 + k) = (if k = n then a 0 else a (76 + k)) := by
  unfold m_append
  rw [if_neg (by omega)]
  exact m_ap0_at (by omega) hk
theorem m_append_8 {a : Nat → Int32} {k : Nat} (hk : k < 8) : m_append a 8 (68 + k) = (if k = 7 then a 39 else a (68 + k + 1)) ∧ m_append a 8 (76 + k) = (if k = 7 then a 0 else a (76 + k + 1)) := by
  unfold m_append
  rw [if_pos rfl]
  obtain ⟨h1, h2⟩ := m_ap0_at (a := upd (m_sh a 7) 84 (nI 7)) (c := 7) (k := k) (by omega) hk
  rw [h1, h2]
  by_cases h7 : k = 7
  · rw [if_pos h7, if_pos h7, if_pos h7, if_pos h7, pk_un (by omega), pk_un (by omega), m_sh_out a (by omega) 7 (by omega), m_sh_out a (by omega) 7 (by omega)]
    exact ⟨rfl, rfl⟩
  · rw [if_neg h7, if_neg h7, if_neg h7, if_neg h7, pk_un (by omega), pk_un (by omega), (m_sh_in a 7 (by omega) k hk).1, (m_sh_in a 7 (by omega) k hk).2, if_pos (by omega), if_pos (by omega)]
    exact ⟨rfl, rfl⟩
theorem m_append_84 {a : Nat → Int32} {n : Nat} (hn : n ≤ 8) : m_append a n 84 = nI (if n = 8 then 8 else n + 1) ∧ m_append a n 85 = a 85 + 1 := by
  unfold m_append
  by_cases h : n = 8
  · rw [if_pos h, if_pos h, m_ap0_84, m_ap0_85, pk_un (by omega), m_sh_out a (by omega) 7 (by omega)]
    exact ⟨rfl, rfl⟩
  · rw [if_neg h, if_neg h, m_ap0_84, m_ap0_85]
    exact ⟨rfl, rfl⟩
/-- a runner of the lane x, or none -/
def rrn (ru : Nat → Option Nat) (x : Int32) : Option Nat := (lo x).bind ru
/-- the lane j takes part in the race r -/
def spn (r j : Nat) : Prop := r = j / 2 ∨ r = 4 + j / 4 ∨ r = 6
def Lv (ru : Nat → Option Nat) (r : Nat) (x : Int32) : Prop := x = -1 ∨ ∃ j, j < 8 ∧ x = nI j ∧ ru j ≠ none ∧ spn r j
theorem rrn_m1 {ru : Nat → Option Nat} : rrn ru (-1) = none := by unfold rrn; rw [lo_m1]; rfl
theorem rrn_nI {ru : Nat → Option Nat} {j : Nat} (hj : j < 8) : rrn ru (nI j) = ru j := by unfold rrn; rw [lo_nI (by omega)]; rfl
/-- times, speeds and places are small -/
def Bd (a : Nat → Int32) : Prop := (0 ≤ (a 0).toInt ∧ (a 0).toInt ≤ 9000) ∧ ∀ i, i < 8 → (-99 ≤ (a (17 + i)).toInt ∧ (a (17 + i)).toInt ≤ 99) ∧ (-1000000 - 99 * (a 0).toInt ≤ (a (9 + i)).toInt ∧ (a (9 + i)).toInt ≤ 1000000 + 99 * (a 0).toInt)
def Tp (S : Nat → Prop) (ru wn ot : Nat → Option Nat) (un : Nat → Int64) (a : Nat → Int32) : Prop :=
  (∀ i, i < 8 → a (1 + i) = if ru i = none then 0 else 1) ∧
  (∀ i, i < 7 → S i → wn i = rrn ru (a (33 + i)) ∧ ot i = rrn ru (a (40 + i)) ∧ Lv ru i (a (33 + i)) ∧ Lv ru i (a (40 + i))) ∧
  (∀ i, i < 7 → un i = uu (a (47 + i))) ∧ (∀ i, i < 7 → isL (a (33 + i))) ∧ Bd a
def TK (b h : PH) (t : Nat) (T rc : Nat → Nat) (ru : Nat → Option Nat) (S : Nat → Prop) (a : Nat → Int32) : Prop := ∃ (wn ot : Nat → Option Nat) (un : Nat → Int64), Tc b h t T rc ru wn ot un a ∧ Tl b h (T 3) a ∧ Tp S ru wn ot un a
theorem TK.wf {b h : PH} {t : Nat} {T rc : Nat → Nat} {ru : Nat → Option Nat} {S : Nat → Prop} {σ : MS} (H : TK b h t T rc ru S (σ.1 0)) : WF σ := by
  obtain ⟨wn, ot, un, h1, ⟨md, n, nd, it, h2, h3, h4, h5⟩, h6⟩ := H
  exact ⟨h6.2.2.2.1, n, h3, h4⟩
theorem Bd.pl {a : Nat → Int32} (H : Bd a) {i : Nat} (hi : i < 8) : -1000000000 ≤ (a (9 + i)).toInt ∧ (a (9 + i)).toInt ≤ 1000000000 := by
  obtain ⟨h1, h2⟩ := H
  have := h2 i hi
  omega
theorem ahead_m {σ : MS} (H : Bd (σ.1 0)) {i j : Nat} (hi : i < 8) (hj : j < 8) : k_ahead (σ.1 0 (9 + i)) (nI i) (σ.1 0 (9 + j)) (nI j) = m_isAhead σ i j (nI 0) := by
  have e : ∀ k, m_placeBehind σ k (nI 0) = σ.1 0 (9 + k) := by
    intro k
    unfold m_placeBehind
    rw [nI_0, Int32.mul_zero, Int32.add_zero]
  rw [k_ahead_m (H.pl hi) (H.pl hj)]
  unfold m_isAhead m_by
  rw [e, e]
theorem isAhead_ge {σ : MS} (H : Bd (σ.1 0)) {i j : Nat} (hi : i < 8) (hj : j < 8) : (m_isAhead σ i j (nI 0) = 0 → (σ.1 0 (9 + i)).toInt ≤ (σ.1 0 (9 + j)).toInt) ∧ (¬ m_isAhead σ i j (nI 0) = 0 → (σ.1 0 (9 + j)).toInt ≤ (σ.1 0 (9 + i)).toInt) := by
  rw [← ahead_m H hi hj]
  unfold k_ahead
  by_cases h1 : σ.1 0 (9 + j) < σ.1 0 (9 + i)
  · rw [if_pos h1]
    have := Int32.lt_iff_toInt_lt.mp h1
    exact ⟨fun z => absurd z (by decide), fun _ => by omega⟩
  · rw [if_neg h1]
    have h1' : ¬ (σ.1 0 (9 + j)).toInt < (σ.1 0 (9 + i)).toInt := fun z => h1 (Int32.lt_iff_toInt_lt.mpr z)
    by_cases h2 : σ.1 0 (9 + i) = σ.1 0 (9 + j)
    · rw [h2]
      exact ⟨fun _ => by omega, fun _ => by omega⟩
    · rw [if_neg h2]
      exact ⟨fun _ => by omega, fun z => absurd rfl z⟩
theorem until_m {σ : MS} (H : Bd (σ.1 0)) {w o : Nat} (hw : w < 8) (ho : o < 8) (hwo : (σ.1 0 (9 + o)).toInt ≤ (σ.1 0 (9 + w)).toInt) : k_until (k_lasts (σ.1 0 (9 + w)) (nI w) (σ.1 0 (17 + w)) (σ.1 0 (9 + o)) (nI o) (σ.1 0 (17 + o))) (σ.1 0 0) = uu (rU σ (some w, some o)) := by
  obtain ⟨h1, h2⟩ := H
  have b1 := (h2 w hw).2
  have b2 := (h2 o ho).2
  have e : (σ.1 0 (9 + w) - σ.1 0 (9 + o)).toInt = (σ.1 0 (9 + w)).toInt - (σ.1 0 (9 + o)).toInt := i_sub (by omega) (by omega)
  rw [k_until_m hw ho (by rw [e]; omega) (by rw [e]; omega) h1]
  rfl
theorem k_runs_m {σ : MS} (H : Bd (σ.1 0)) {ru : Nat → Option Nat} {oa ob : Option Nat} (ha : ∀ i, oa = some i → i < 8 ∧ ru i ≠ none) (hb : ∀ i, ob = some i → i < 8 ∧ ru i ≠ none) {x : Int32} {L1 L2 : Int64}
    (hx : ∀ i j, oa = some i → ob = some j → x = m_isAhead σ i j (nI 0))
    (h1 : ∀ i j, oa = some i → ob = some j → L1 = k_lasts (σ.1 0 (9 + i)) (nI i) (σ.1 0 (17 + i)) (σ.1 0 (9 + j)) (nI j) (σ.1 0 (17 + j)))
    (h2 : ∀ i j, oa = some i → ob = some j → L2 = k_lasts (σ.1 0 (9 + j)) (nI j) (σ.1 0 (17 + j)) (σ.1 0 (9 + i)) (nI i) (σ.1 0 (17 + i))) :
    k_win (oa.bind ru) (ob.bind ru) x = (rW σ oa ob).1.bind ru ∧ k_los (oa.bind ru) (ob.bind ru) x = (rW σ oa ob).2.bind ru ∧ k_unt (oa.bind ru) (ob.bind ru) x (σ.1 0 0) L1 L2 = uu (rU σ (rW σ oa ob)) := by
  have hs : ∀ {o : Option Nat} {i : Nat}, o = some i → ru i ≠ none → ∃ q, ru i = some q := by
    intro o i _ hn
    cases hq : ru i with
    | none => exact absurd hq hn
    | some q => exact ⟨q, rfl⟩
  cases oa with
  | none =>
    cases ob with
    | none => exact ⟨rfl, rfl, uu_m1.symm⟩
    | some j =>
      obtain ⟨q, hq⟩ := hs rfl (hb j rfl).2
      simp only [Option.bind_none, Option.bind_some, hq]
      refine ⟨?_, rfl, uu_m1.symm⟩
      show some q = Option.bind (some j) ru
      rw [Option.bind_some, hq]
  | some i =>
    obtain ⟨q, hq⟩ := hs rfl (ha i rfl).2
    cases ob with
    | none =>
      simp only [Option.bind_none, Option.bind_some, hq]
      refine ⟨?_, rfl, uu_m1.symm⟩
      show some q = Option.bind (some i) ru
      rw [Option.bind_some, hq]
    | some j =>
      obtain ⟨p, hp⟩ := hs rfl (hb j rfl).2
      have ex := hx i j rfl rfl
      have e1 := h1 i j rfl rfl
      have e2 := h2 i j rfl rfl
      obtain ⟨g1, g2⟩ := isAhead_ge H (ha i rfl).1 (hb j rfl).1
      simp only [Option.bind_some, hq, hp]
      unfold k_win k_los k_unt rW
      dsimp only
      by_cases hz : m_isAhead σ i j (nI 0) = 0
      · rw [ex, if_pos hz, if_pos hz, if_pos hz, if_pos hz]
        refine ⟨hp.symm, hq.symm, ?_⟩
        rw [e2]
        exact until_m H (hb j rfl).1 (ha i rfl).1 (g1 hz)
      · rw [ex, if_neg hz, if_neg hz, if_neg hz, if_neg hz]
        refine ⟨hq.symm, hp.symm, ?_⟩
        rw [e1]
        exact until_m H (ha i rfl).1 (hb j rfl).1 (g2 hz)
/-- who takes part in the race r -/
def sd (ru wn : Nat → Option Nat) (r k : Nat) : Option Nat := if r < 4 then ru (2 * r + k) else wn (2 * (r - 4) + k)
theorem sd_m {S : Nat → Prop} {ru wn ot : Nat → Option Nat} {un : Nat → Int64} {σ : MS} (H : Tp S ru wn ot un (σ.1 0)) {r k : Nat} (hr : r < 7) (hk : k < 2) (hS : 4 ≤ r → S (2 * (r - 4) + k)) : sd ru wn r k = rrn ru (m_racer σ r k) ∧ Lv ru r (m_racer σ r k) := by
  unfold sd m_racer
  by_cases h4 : r < 4
  · rw [if_pos h4, if_pos (show r ≤ 3 by omega)]
    have e := H.1 (2 * r + k) (by omega)
    cases hq : ru (2 * r + k) with
    | none =>
      rw [if_pos hq] at e
      have hm : m_has σ (2 * r + k) = 0 := by unfold m_has; rw [e]; rfl
      rw [if_pos hm]
      exact ⟨rrn_m1.symm, Or.inl rfl⟩
    | some q =>
      rw [if_neg (by rw [hq]; exact nofun)] at e
      have hm : ¬ m_has σ (2 * r + k) = 0 := by unfold m_has; rw [e]; decide
      rw [if_neg hm, rrn_nI (by omega), hq]
      exact ⟨rfl, Or.inr ⟨2 * r + k, by omega, rfl, by rw [hq]; exact nofun, Or.inl (by omega)⟩⟩
  · rw [if_neg h4, if_neg (show ¬ r ≤ 3 by omega), show 33 + 2 * (r - 4) + k = 33 + (2 * (r - 4) + k) by omega]
    obtain ⟨h1, -, h3, -⟩ := H.2.1 (2 * (r - 4) + k) (by omega) (hS (by omega))
    refine ⟨h1, ?_⟩
    rcases h3 with e | ⟨j, hj, e, hn, hs⟩
    · exact Or.inl e
    · refine Or.inr ⟨j, hj, e, hn, ?_⟩
      unfold spn at hs ⊢
      omega
theorem Lv.lo3 {ru : Nat → Option Nat} {r : Nat} {x : Int32} (h : Lv ru r x) : ∀ i, lo x = some i → i < 8 ∧ ru i ≠ none ∧ spn r i := by
  intro i hi
  rcases h with rfl | ⟨j, hj, rfl, hn, hs⟩
  · rw [lo_m1] at hi; cases hi
  · rw [lo_nI (by omega)] at hi; cases hi; exact ⟨hj, hn, hs⟩
theorem Lv.lo {ru : Nat → Option Nat} {r : Nat} {x : Int32} (h : Lv ru r x) : ∀ i, lo x = some i → i < 8 ∧ ru i ≠ none := fun i hi => ⟨(h.lo3 i hi).1, (h.lo3 i hi).2.1⟩
theorem Lv.on {ru : Nat → Option Nat} {r : Nat} {o : Option Nat} (h : ∀ i, o = some i → i < 8 ∧ ru i ≠ none ∧ spn r i) : Lv ru r (on o) := by
  cases o with
  | none => exact Or.inl rfl
  | some i => exact Or.inr ⟨i, (h i rfl).1, rfl, (h i rfl).2.1, (h i rfl).2.2⟩
theorem rrn_on {ru : Nat → Option Nat} {o : Option Nat} (h : ∀ i, o = some i → i < 8) : rrn ru (on o) = o.bind ru := by
  cases o with
  | none => exact rrn_m1
  | some i => exact rrn_nI (h i rfl)
theorem rW_ok {σ : MS} {P : Nat → Prop} {oa ob : Option Nat} (ha : ∀ j, oa = some j → P j) (hb : ∀ j, ob = some j → P j) : (∀ j, (rW σ oa ob).1 = some j → P j) ∧ ∀ j, (rW σ oa ob).2 = some j → P j := by
  cases oa with
  | none => exact ⟨hb, fun j z => by cases z⟩
  | some i =>
    cases ob with
    | none => exact ⟨ha, fun j z => by cases z⟩
    | some j =>
      unfold rW
      dsimp only
      split
      · exact ⟨hb, ha⟩
      · exact ⟨ha, hb⟩
