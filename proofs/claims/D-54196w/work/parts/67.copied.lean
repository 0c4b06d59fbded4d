/-! a track that is being copied -/
set_option maxRecDepth 100000
def k10 (k : Nat) : Bool := k == 10
def k14 (k : Nat) : Bool := k == 14
def kStay (k : Nat) : Bool := k == 1 || k == 104 || k == 3 || k == 10
/-- i lanes are copied -/
def Cl (b h : PH) (ru r2 : Nat → Option Nat) (i : Nat) (a : Nat → Int32) : Prop := ∀ k, k < 8 → (i ≤ k → r2 k = none) ∧ (k < i → (ru k = none ↔ r2 k = none)) ∧ ∀ q, r2 k = some q → h q = some (eo 10 [.int (nI k), .int (a (9 + k)), .int (a (17 + k)), .int (a (25 + k))]) ∧ b q = none
section CL
variable {b h h' : PH} {ru r2 : Nat → Option Nat} {i q : Nat} {a : Nat → Int32}
theorem Cl.keep (H : Cl b h ru r2 i a) (hk : Kp k10 h h') : Cl b h' ru r2 i a := fun k hk8 => ⟨(H k hk8).1, (H k hk8).2.1, fun q hq => ⟨hk _ _ ((H k hk8).2.2 q hq).1 rfl, ((H k hk8).2.2 q hq).2⟩⟩
theorem Cl.zero : Cl b h ru (fun _ => none) 0 a := fun k _ => ⟨fun _ => rfl, fun z => absurd z (by omega), fun q hq => by cases hq⟩
theorem Cl.non (H : Cl b h ru r2 i a) (hr : ru i = none) : Cl b h ru (va_up r2 i none) (i + 1) a := by
  intro k hk
  obtain ⟨h1, h2, h3⟩ := H k hk
  by_cases hik : k = i
  · subst hik
    rw [va_up_s]
    exact ⟨fun z => absurd z (by omega), fun _ => ⟨fun _ => rfl, fun _ => hr⟩, fun q hq => by cases hq⟩
  · rw [va_up_n hik]
    exact ⟨fun z => h1 (by omega), fun z => h2 (by omega), h3⟩
theorem Cl.som {q0 : Nat} (H : Cl b h ru r2 i a) (hr : ru i = some q0) (hq : h q = some (eo 10 [.int (nI i), .int (a (9 + i)), .int (a (17 + i)), .int (a (25 + i))])) (bq : b q = none) : Cl b h ru (va_up r2 i (some q)) (i + 1) a := by
  intro k hk
  obtain ⟨h1, h2, h3⟩ := H k hk
  by_cases hik : k = i
  · subst hik
    rw [va_up_s]
    exact ⟨fun z => absurd z (by omega), fun _ => ⟨fun z => by (rw [hr] at z; cases z), fun z => by cases z⟩, fun q' hq' => by (cases hq'; exact ⟨hq, bq⟩)⟩
  · rw [va_up_n hik]
    exact ⟨fun z => h1 (by omega), fun z => h2 (by omega), h3⟩
theorem Cl.lv (H : Cl b h ru r2 8 a) {r : Nat} {x : Int32} (hx : Lv ru r x) : Lv r2 r x := by
  rcases hx with e | ⟨j, hj, e, hn, hs⟩
  · exact Or.inl e
  · exact Or.inr ⟨j, hj, e, fun z => hn (((H j hj).2.1 hj).mpr z), hs⟩
theorem Cl.wq (H : Cl b h ru r2 8 a) {r : Nat} {x : Int32} (hx : Lv ru r x) (hq : rrn r2 x = some q) : ∃ fs, h q = some (eo 10 fs) := by
  rcases hx with e | ⟨j, hj, e, hn, hs⟩
  · rw [e, rrn_m1] at hq
    cases hq
  · rw [e, rrn_nI hj] at hq
    exact ⟨_, ((H j hj).2.2 q hq).1⟩
end CL
theorem Tc.wqp {b h : PH} {t z : Nat} {T rc : Nat → Nat} {ru wn ot : Nat → Option Nat} {un : Nat → Int64} {a : Nat → Int32} {e : va_E} {fs : List Value} (hc : Tc b h t T rc ru wn ot un a) (hz : h z = some (eo 13 fs)) {i q : Nat} (hi : i < 7) (hq : wn i = some q ∨ ot i = some q) : ∃ fs', pu h z e q = some (eo 10 fs') := by
  obtain ⟨f2, h2⟩ := hc.wq hi hq
  exact ⟨f2, pu_o (ne_k h2 hz rfl) h2⟩
/-- the row of a track whose time and turns are still zero -/
def az (a : Nat → Int32) : Nat → Int32 := upd (upd a 0 (nI 0)) 85 (nI 0)
theorem az_n {a : Nat → Int32} {k : Nat} (h0 : k ≠ 0) (h85 : k ≠ 85) : az a k = a k := by
  unfold az
  rw [pk_un h85, pk_un h0]
theorem az_0 {a : Nat → Int32} : az a 0 = nI 0 := by
  unfold az
  rw [pk_un (by omega), pk_us]
theorem az_85 {a : Nat → Int32} : az a 85 = nI 0 := pk_us
section CP
variable {D : va_G} {b h g : PH} {t z1 z2 z3 z4 ea : Nat} {T rc rc2 : Nat → Nat} {ru wn ot r2 : Nat → Option Nat} {un : Nat → Int64} {a : Nat → Int32}
theorem Rl.cong {n a1 : Nat} {nu la nu' la' : Nat → Int32} (R : Rl D b h a1 n ea rc wn ot un nu la) (h1 : ∀ i, i < n → nu' i = nu i ∧ la' i = la i) : Rl D b h a1 n ea rc wn ot un nu' la' := by
  obtain ⟨g1, g2, g3, g4, g5, g6⟩ := R
  refine ⟨g1, g2, g3, g4, fun i hi => ?_, g6⟩
  rw [(h1 i hi).1, (h1 i hi).2]
  exact g5 i hi
theorem Tc.made (hp : Tp Al ru wn ot un a) (k1 : g z1 = some (eo 1 [.ref z2, .ref z3, .ref z4, .int (nI 0), .int (nI 0)])) (k2 : g z2 = some (eR 8 r2)) (hC : Cl h g ru r2 8 a) (R : Rl D h g z3 7 ea rc2 (fun i => rrn r2 (a (33 + i))) (fun i => rrn r2 (a (40 + i))) un (fun i => a (54 + i)) (fun i => a (61 + i))) (b1 : h z1 = none) (b2 : h z2 = none) :
    Tc h g z1 (T4 z2 z3 ea z4) rc2 r2 (fun i => rrn r2 (a (33 + i))) (fun i => rrn r2 (a (40 + i))) un (az a) := by
  refine Tc.of (by rw [az_0, az_85]; exact k1) k2 (R.cong (fun i hi => ⟨az_n (by omega) (by omega), az_n (by omega) (by omega)⟩)) (fun i q hi hq => ?_) (fun i q hi hq => ?_) b1 b2
  · rw [az_n (by omega) (by omega), az_n (by omega) (by omega), az_n (by omega) (by omega)]
    exact (hC i hi).2.2 q hq
  · obtain ⟨-, -, l1, l2⟩ := hp.2.1 i hi trivial
    rcases hq with hq | hq
    · exact hC.wq l1 hq
    · exact hC.wq l2 hq
theorem Tp.made (hp : Tp Al ru wn ot un a) (hC : Cl h g ru r2 8 a) : Tp Al r2 (fun i => rrn r2 (a (33 + i))) (fun i => rrn r2 (a (40 + i))) un a := by
  refine ⟨fun i hi => ?_, fun i hi _ => ?_, hp.2.2.1, hp.2.2.2.1, hp.2.2.2.2⟩
  · rw [hp.1 i hi]
    have e := (hC i hi).2.1 hi
    by_cases hr : ru i = none
    · rw [if_pos hr, if_pos (e.mp hr)]
    · rw [if_neg hr, if_neg (fun z => hr (e.mpr z))]
  · obtain ⟨-, -, l1, l2⟩ := hp.2.1 i hi trivial
    exact ⟨rfl, rfl, hC.lv l1, hC.lv l2⟩
end CP
