/-! printed by gen/compw.py -/
set_option maxRecDepth 100000
theorem q508 : (Jvm.Cond.fieldLinkNest "LeadRaces$Track" (167 : Nat) "LeadRaces$Runner" "place" "I" "LeadRaces") ∈ lw_tbl := lw_at lw_m2 200 rfl
theorem q511 : (Jvm.Cond.fieldLinkNest "LeadRaces$Track" (164 : Nat) "LeadRaces$Runner" "speed" "I" "LeadRaces") ∈ lw_tbl := lw_at lw_m2 203 rfl
theorem q514 : (Jvm.Cond.fieldLinkNest "LeadRaces$Track" (181 : Nat) "LeadRaces$Runner" "led" "I" "LeadRaces") ∈ lw_tbl := lw_at lw_m2 206 rfl
theorem q1187 : (Jvm.Cond.methodLink "LeadRaces$Track" (177 : Nat) ({ cls := "LeadRaces$Track", name := "isStale", desc := "(I[Z)Z" } : Jvm.MethodName)) ∈ lw_all := lw_g (lw_at lw_m5 159 rfl) rfl
theorem q1189 : (Jvm.Cond.instanceMethod ({ cls := "LeadRaces$Track", name := "isStale", desc := "(I[Z)Z" } : Jvm.MethodName)) ∈ lw_all := lw_g (lw_at lw_m5 161 rfl) rfl
theorem q1190 : (Jvm.Cond.code ({ cls := "LeadRaces$Track", name := "isStale", desc := "(I[Z)Z" } : Jvm.MethodName) prog_10_method_17_code (4 : Nat) (Option.some Jvm.ClassFile.FieldType.boolean)) ∈ lw_all := lw_g (lw_at lw_m5 162 rfl) rfl
section
variable {l : Launch} {D : va_G} {cc : ByteArray} {nL : Nat} {rm : Room} {Γ : Cxt} {h : PH} {k n pc nx : Nat} {lv : List (Nat × Value)} {st : List Value}
theorem p_X1_82_1 (X : Cx l D cc RX1 nL rm Γ) {a : Nat} {fs fs2 : List Value} {v : Value} (d : At cc pc (.putfield 82) 3 nx) (ha : h a = some (eo 1 fs)) (hn : narrow (.int) v = v) (hfit : fits (.int) v = true) (hl2 : Nat.ble (3 + 1) fs.length = true) (hfs : fs.set 3 v = fs2) (kk : J Γ (pu h a (eo 1 fs2)) k n nx lv st) : J Γ h k n pc lv (v :: .ref a :: st) := J_put X (kf := 3) (tf := tyX1) d ha (show vwCl[1]? = some (RX1, TX1, 5) from rfl) in_X1 tyX1_ok nmX1 rfl q188 rfl rfl rfl hn hfit hl2 hfs kk
theorem g_X1_181_10 (X : Cx l D cc RX1 nL rm Γ) {a : Nat} {fs : List Value} {v : Value} (d : At cc pc (.getfield 181) 3 nx) (ha : h a = some (eo 10 fs)) (hv : fs[3]? = some v) (kk : J Γ h k n nx lv (v :: st)) : J Γ h k n pc lv (.ref a :: st) := J_getN X (kf := 3) d ha (show vwCl[10]? = some (RX5, TX5, 4) from rfl) in_X5 rfl q514 rfl hv kk
theorem p_X1_181_10 (X : Cx l D cc RX1 nL rm Γ) {a : Nat} {fs fs2 : List Value} {v : Value} (d : At cc pc (.putfield 181) 3 nx) (ha : h a = some (eo 10 fs)) (hn : narrow (.int) v = v) (hfit : fits (.int) v = true) (hl2 : Nat.ble (3 + 1) fs.length = true) (hfs : fs.set 3 v = fs2) (kk : J Γ (pu h a (eo 10 fs2)) k n nx lv st) : J Γ h k n pc lv (v :: .ref a :: st) := J_putN X (kf := 3) (tf := tyX5) d ha (show vwCl[10]? = some (RX5, TX5, 4) from rfl) in_X5 tyX5_ok nmX5 rfl q514 rfl rfl rfl hn hfit hl2 hfs kk
theorem g_X1_167_10 (X : Cx l D cc RX1 nL rm Γ) {a : Nat} {fs : List Value} {v : Value} (d : At cc pc (.getfield 167) 3 nx) (ha : h a = some (eo 10 fs)) (hv : fs[1]? = some v) (kk : J Γ h k n nx lv (v :: st)) : J Γ h k n pc lv (.ref a :: st) := J_getN X (kf := 1) d ha (show vwCl[10]? = some (RX5, TX5, 4) from rfl) in_X5 rfl q508 rfl hv kk
theorem g_X1_164_10 (X : Cx l D cc RX1 nL rm Γ) {a : Nat} {fs : List Value} {v : Value} (d : At cc pc (.getfield 164) 3 nx) (ha : h a = some (eo 10 fs)) (hv : fs[2]? = some v) (kk : J Γ h k n nx lv (v :: st)) : J Γ h k n pc lv (.ref a :: st) := J_getN X (kf := 2) d ha (show vwCl[10]? = some (RX5, TX5, 4) from rfl) in_X5 rfl q511 rfl hv kk
theorem p_X1_167_10 (X : Cx l D cc RX1 nL rm Γ) {a : Nat} {fs fs2 : List Value} {v : Value} (d : At cc pc (.putfield 167) 3 nx) (ha : h a = some (eo 10 fs)) (hn : narrow (.int) v = v) (hfit : fits (.int) v = true) (hl2 : Nat.ble (1 + 1) fs.length = true) (hfs : fs.set 1 v = fs2) (kk : J Γ (pu h a (eo 10 fs2)) k n nx lv st) : J Γ h k n pc lv (v :: .ref a :: st) := J_putN X (kf := 1) (tf := tyX5) d ha (show vwCl[10]? = some (RX5, TX5, 4) from rfl) in_X5 tyX5_ok nmX5 rfl q508 rfl rfl rfl hn hfit hl2 hfs kk
end
theorem kpo_led {σ : MS} {j : Nat} (hj : j < 8) {x : Int32} : kpo (sA σ 0 (upd (σ.1 0) (25 + j) x)) = kpo σ := by
  unfold kpo
  show (upd (σ.1 0) (25 + j) x 84).toNatClampNeg = _
  rw [pk_un (by omega)]
/-- the flags of a moment are written -/
theorem Kos {b h : PH} {t os : Nat} {T rc : Nat → Nat} {ru : Nat → Option Nat} {S : Nat → Prop} {a : Nat → Int32} {e : va_E} {g : Nat → Int32} (H : TK b h t T rc ru S a) (ho : h os = some (eZ 7 g)) (bo : b os = none) : TK b (pu h os e) t T rc ru S a := by
  obtain ⟨wn, ot, un, h1, h2, h3⟩ := H
  exact ⟨wn, ot, un, h1.keep (Kp.put ho rfl) (h1.ext.put bo), h2.keep (Kp.put ho rfl), h3⟩
theorem rc_k6 {r : Nat} {g : Nat → Int32} {f : Nat → Int32} {x : Int32} (k6 : ∀ j, j < r → isB (g j) ∧ g j = f j) (hx : isB x) : ∀ j, j < r + 1 → isB (upd g r (vp_nar .boolean x) j) ∧ upd g r (vp_nar .boolean x) j = upd f r x j := by
  have ev : vp_nar .boolean x = x := by rcases hx with rfl | rfl <;> rfl
  intro j hj
  rw [ev]
  by_cases h : j = r
  · rw [h, pk_us, pk_us]
    exact ⟨hx, rfl⟩
  · rw [pk_un h, pk_un h]
    exact k6 j (by omega)
abbrev cX1_passes_2 : ByteArray := prog_10_method_18_code
def yX1_passes_2 : MethodName := ⟨RX1, "passes", "([Z)V"⟩
theorem tX1_passes_2 : dtab cX1_passes_2 [(0, .aload_n 0, 1, 1), (1, .dup, 1, 2), (2, .getfield 82, 3, 5), (5, .iconst 1, 1, 6), (6, .iadd, 1, 7), (7, .putfield 82, 3, 10), (10, .iconst 0, 1, 11), (11, .istore_n 2, 1, 12), (12, .iload_n 2, 1, 13), (13, .bipush 8, 2, 15), (15, .if_icmp .ge 41, 3, 18), (18, .aload_n 0, 1, 19), (19, .getfield 11, 3, 22), (22, .iload_n 2, 1, 23), (23, .aaload, 1, 24), (24, .ifnull 26, 3, 27), (27, .aload_n 0, 1, 28), (28, .getfield 11, 3, 31), (31, .iload_n 2, 1, 32), (32, .aaload, 1, 33), (33, .dup, 1, 34), (34, .getfield 167, 3, 37), (37, .aload_n 0, 1, 38), (38, .getfield 11, 3, 41), (41, .iload_n 2, 1, 42), (42, .aaload, 1, 43), (43, .getfield 164, 3, 46), (46, .iadd, 1, 47), (47, .putfield 167, 3, 50), (50, .iinc 2 1, 3, 53), (53, .goto (-41), 3, 56), (56, .iconst 0, 1, 57), (57, .istore_n 2, 1, 58), (58, .iload_n 2, 1, 59), (59, .bipush 7, 2, 61), (61, .if_icmp .ge 34, 3, 64), (64, .aload_n 1, 1, 65), (65, .iload_n 2, 1, 66), (66, .aload_n 0, 1, 67), (67, .iload_n 2, 1, 68), (68, .aload_n 1, 1, 69), (69, .invokevirtual 177, 3, 72), (72, .ifCond .eq 15, 3, 75), (75, .aload_n 0, 1, 76), (76, .iload_n 2, 1, 77), (77, .invokevirtual 131, 3, 80), (80, .ifCond .eq 7, 3, 83), (83, .iconst 1, 1, 84), (84, .goto 4, 3, 87), (87, .iconst 0, 1, 88), (88, .bastore, 1, 89), (89, .iinc 2 1, 3, 92), (92, .goto (-34), 3, 95), (95, .aload_n 0, 1, 96), (96, .invokevirtual 134, 3, 99), (99, .aload_n 0, 1, 100), (100, .invokevirtual 108, 3, 103), (103, .ifnull 16, 3, 106), (106, .aload_n 0, 1, 107), (107, .invokevirtual 108, 3, 110), (110, .dup, 1, 111), (111, .getfield 181, 3, 114), (114, .iconst 1, 1, 115), (115, .iadd, 1, 116), (116, .putfield 181, 3, 119), (119, .return_, 1, 120)] := by unfold dtab; decide +kernel
theorem okX1_passes_2 : okY yX1_passes_2 1 := by decide +kernel
set_option maxHeartbeats 4000000 in
theorem c_Tpass (l : Launch) (D : va_G) (h : PH) {b : PH} {t : Nat} {T rc : Nat → Nat} {ru : Nat → Option Nat} {σ : MS} {os : Nat} {gz : Nat → Int32}  (H : TK b h t T rc ru Al (σ.1 0)) (ht : (σ.1 0 0).toInt < 9000) (hz : h os = some (eZ 7 gz)) (bo : b os = none) : Ct l D yX1_passes_2 cX1_passes_2 3 none (rmC 5 110 2 5) [.ref t, .ref os] h (fun v h9 => v = none ∧ (∃ g, h9 os = some (eZ 7 g)) ∧ TK b h9 t T rc ru Al ((m_byT σ).1 0)) := by
  refine Ct.of (by decide) rfl (fun Γ X rr hmn => ?_)
  have X : Cx l D cX1_passes_2 RX1 3 (rmC 5 110 2 5) Γ := X
  show J Γ h 0 0 0 [(0, .ref t), (1, .ref os)] []
  obtain ⟨wn, ot, un, hc, hl, hp⟩ := H
  have hh : ∀ i, i < 8 → (m_tick (σ.1 0)) (1 + i) = if ru i = none then 0 else 1 := fun i hi => (show (m_tick (σ.1 0)) (1 + i) = σ.1 0 (1 + i) from pk_un (by omega)).trans (hp.1 i hi)
  refine J_aload_n X (dt tX1_passes_2 0 rfl) 0 rfl ?_
  refine J_dup X (dt tX1_passes_2 1 rfl) rfl ?_
  refine g_X1_82_1 X (dt tX1_passes_2 2 rfl) hc.ct rfl ?_
  refine J_iconst X (nI 1) (dt tX1_passes_2 3 rfl) (by decide) ?_
  refine J_iadd X (dt tX1_passes_2 4 rfl) ?_
  refine p_X1_82_1 X (fs2 := [.ref (T 0), .ref (T 1), .ref (T 3), .int ((σ.1 0 0) + (nI 1)), .int (σ.1 0 85)]) (dt tX1_passes_2 5 rfl) hc.ct rfl rfl rfl rfl ?_
  refine J_iconst X (nI 0) (dt tX1_passes_2 6 rfl) (by decide) ?_
  refine J_istore_n X (lv2 := [(2, .int (nI 0)), (0, .ref t), (1, .ref os)]) (dt tX1_passes_2 7 rfl) rfl rfl rfl ?_
  have hc1 : Tc b (pu h t (eo 1 [.ref (T 0), .ref (T 1), .ref (T 3), .int ((σ.1 0 0) + (nI 1)), .int (σ.1 0 85)])) t T rc ru wn ot un (m_tick (σ.1 0)) := by
    have z := hc.putT (a' := (m_tick (σ.1 0))) (fun k _ _ => pk_un (by omega)) (fun k _ _ => pk_un (by omega))
    rw [show (m_tick (σ.1 0)) 0 = σ.1 0 0 + 1 from pk_us, show (m_tick (σ.1 0)) 85 = σ.1 0 85 from pk_un (by omega)] at z
    exact z
  have hl1 : Tl b (pu h t (eo 1 [.ref (T 0), .ref (T 1), .ref (T 3), .int ((σ.1 0 0) + (nI 1)), .int (σ.1 0 85)])) (T 3) (m_tick (σ.1 0)) := (hl.keep (Kp.put hc.ct rfl)).row (pk_un (by omega)) (fun k _ _ => pk_un (by omega))
  have hz1 : (pu h t (eo 1 [.ref (T 0), .ref (T 1), .ref (T 3), .int ((σ.1 0 0) + (nI 1)), .int (σ.1 0 85)])) os = some (eZ 7 gz) := (pu_o (Ne.symm (ne_oa hc.ct hz)) hz)
  refine J_sub [1, 2, 0] rfl ?_
  refine up_to 8 (P := fun i2 => ∀ g1 : PH, (Tc b g1 t T rc ru wn ot un (m_mv (m_tick (σ.1 0)) i2)) → (Tl b g1 (T 3) (m_mv (m_tick (σ.1 0)) i2)) → (g1 os = some (eZ 7 gz)) → J Γ g1 0 0 12 [(0, .ref t), (1, .ref os), (2, .int (nI i2))] []) ?_ ?_ (pu h t (eo 1 [.ref (T 0), .ref (T 1), .ref (T 3), .int ((σ.1 0 0) + (nI 1)), .int (σ.1 0 85)])) hc1 hl1 hz1
  · intro g1  k1 k2 k3
    show J Γ g1 0 0 12 [(0, .ref t), (1, .ref os), (2, .int (nI 8))] []
    have KT : TK b g1 t T rc ru Al ((m_mvS σ).1 0) := TK.moved hp ht k1 k2
    refine J_iload_n X (dt tX1_passes_2 8 rfl) 2 rfl ?_
    refine J_bipush X (nI 8) (dt tX1_passes_2 9 rfl) (by decide) ?_
    refine J_icmp_ge X 56 (dt tX1_passes_2 10 rfl) (by decide) (fun _ => ?_) (fun c9 => absurd (by decide) c9)
    refine J_iconst X (nI 0) (dt tX1_passes_2 31 rfl) (by decide) ?_
    refine J_istore_n X (lv2 := [(2, .int (nI 0)), (0, .ref t), (1, .ref os)]) (dt tX1_passes_2 32 rfl) rfl rfl rfl ?_
    refine J_sub [1, 2, 0] rfl ?_
    refine up_to 7 (P := fun i4 => ∀ g3 : PH, ∀ gy : Nat → Int32, (TK b g3 t T rc ru Al ((m_rcs (m_mvS σ) i4).1 0)) → (g3 os = some (eZ 7 gy)) → (∀ j, j < i4 → isB (gy j) ∧ gy j = (m_rcs (m_mvS σ) i4).1 3 j) → J Γ g3 0 0 58 [(0, .ref t), (1, .ref os), (2, .int (nI i4))] []) ?_ ?_ g1 gz KT k3 (fun j hj => absurd hj (by omega))
    · intro g3 gy k4 k5 k6
      show J Γ g3 0 0 58 [(0, .ref t), (1, .ref os), (2, .int (nI 7))] []
      generalize hτ : m_rcs (m_mvS σ) 7 = τ at k4
      refine J_iload_n X (dt tX1_passes_2 33 rfl) 2 rfl ?_
      refine J_bipush X (nI 7) (dt tX1_passes_2 34 rfl) (by decide) ?_
      refine J_icmp_ge X 95 (dt tX1_passes_2 35 rfl) (by decide) (fun _ => ?_) (fun c9 => absurd (by decide) c9)
      refine J_aload_n X (dt tX1_passes_2 53 rfl) 0 rfl ?_
      refine J_callVR (rest := []) X (T := TX1) (dt tX1_passes_2 54 rfl) (c_Tleads l D _ (σ := τ) (k4.more k5 rfl rfl) trivial) (lw_V q583 q585 qs7 q70 q586) okX1_leads rfl (Or.inl k4.ct) rfl ⟨Nat.le_of_ble_eq_true rfl, Nat.le_of_ble_eq_true rfl⟩ rfl (Nat.le_of_ble_eq_true rfl) (Nat.le_of_ble_eq_true rfl) (Nat.le_of_ble_eq_true rfl) (fun v9 g5 hp9 => ?_)
      obtain ⟨rfl, H6⟩ := hp9
      have LH6 := H6.ext _ _ (pu_s _ _ _)
      have H6 := H6.base (Ext.new bo)
      show J Γ g5 2 5 99 [(0, .ref t), (1, .ref os), (2, .int (nI 7))] []
      obtain ⟨wn2, ot2, un2, hc2, hl2, hp2⟩ := H6
      have H8 : TK b g5 t T rc ru Al ((m_putsT τ (kpo τ)).1 0) := ⟨wn2, ot2, un2, hc2, hl2, hp2⟩
      have WT : WF τ := k4.wf
      have e39 : (m_putsT τ (kpo τ)).1 0 39 = m_leaderNow τ := by unfold m_putsT; split; rfl; exact m_append_out (by omega) WT.kle
      have L8 : g5 os = some (eZ 7 gy) := LH6
      rcases TK.leader hc2 hp2 trivial with ⟨c1, c2⟩ | ⟨j, qj, hj, ej, hru, c1, hq⟩
      · refine J_aload_n X (dt tX1_passes_2 55 rfl) 0 rfl ?_
        refine J_callVR (rest := []) X (T := TX1) (dt tX1_passes_2 56 rfl) (c_Tleader l D _ hc2) (lw_V q587 q588 q589 q70 q590) okX1_leader rfl (Or.inl hc2.ct) rfl ⟨Nat.le_of_ble_eq_true rfl, Nat.le_of_ble_eq_true rfl⟩ rfl (Nat.le_of_ble_eq_true rfl) (Nat.le_of_ble_eq_true rfl) (Nat.le_of_ble_eq_true rfl) (fun v9 h9 hp9 => ?_)
        obtain ⟨rfl, e9⟩ := hp9
        rw [e9]
        show J Γ g5 2 5 103 [(0, .ref t), (1, .ref os), (2, .int (nI 7))] [va_rf (wn2 6)]
        refine J_topq (congrArg va_rf c1) ?_
        refine J_ifnull X none 119 (dt tX1_passes_2 57 rfl) (by decide) (fun _ => ?_) (fun _ c9 => by cases c9)
        exact J_vret X rr (dt tX1_passes_2 65 rfl) (Nat.le_of_ble_eq_true rfl) (Nat.le_of_ble_eq_true rfl) ⟨rfl, ⟨gy, L8⟩, by rw [m_byT, show m_byS σ = τ from by rw [m_byS, hτ, m_led, show lo (m_leaderNow τ) = none from by rw [← e39, c2]; exact lo_m1]]; exact H8⟩
      · refine J_aload_n X (dt tX1_passes_2 55 rfl) 0 rfl ?_
        refine J_callVR (rest := []) X (T := TX1) (dt tX1_passes_2 56 rfl) (c_Tleader l D _ hc2) (lw_V q587 q588 q589 q70 q590) okX1_leader rfl (Or.inl hc2.ct) rfl ⟨Nat.le_of_ble_eq_true rfl, Nat.le_of_ble_eq_true rfl⟩ rfl (Nat.le_of_ble_eq_true rfl) (Nat.le_of_ble_eq_true rfl) (Nat.le_of_ble_eq_true rfl) (fun v9 h9 hp9 => ?_)
        obtain ⟨rfl, e9⟩ := hp9
        rw [e9]
        show J Γ g5 2 5 103 [(0, .ref t), (1, .ref os), (2, .int (nI 7))] [va_rf (wn2 6)]
        refine J_topq (rf_s c1) ?_
        refine J_ifnull X (some qj) 119 (dt tX1_passes_2 57 rfl) (by decide) (fun c9 => by cases c9) (fun _ _ => ?_)
        refine J_aload_n X (dt tX1_passes_2 58 rfl) 0 rfl ?_
        refine J_callVR (rest := []) X (T := TX1) (dt tX1_passes_2 59 rfl) (c_Tleader l D _ hc2) (lw_V q587 q588 q589 q70 q590) okX1_leader rfl (Or.inl hc2.ct) rfl ⟨Nat.le_of_ble_eq_true rfl, Nat.le_of_ble_eq_true rfl⟩ rfl (Nat.le_of_ble_eq_true rfl) (Nat.le_of_ble_eq_true rfl) (Nat.le_of_ble_eq_true rfl) (fun v9 h9 hp9 => ?_)
        obtain ⟨rfl, e9⟩ := hp9
        rw [e9]
        show J Γ g5 2 5 110 [(0, .ref t), (1, .ref os), (2, .int (nI 7))] [va_rf (wn2 6)]
        refine J_topq (rf_s c1) ?_
        refine J_dup X (dt tX1_passes_2 60 rfl) rfl ?_
        refine g_X1_181_10 X (dt tX1_passes_2 61 rfl) hq rfl ?_
        refine J_iconst X (nI 1) (dt tX1_passes_2 62 rfl) (by decide) ?_
        refine J_iadd X (dt tX1_passes_2 63 rfl) ?_
        refine p_X1_181_10 X (fs2 := [.int ((m_putsT τ (kpo τ)).1 0 39), .int ((m_putsT τ (kpo τ)).1 0 (9 + j)), .int ((m_putsT τ (kpo τ)).1 0 (17 + j)), .int (((m_putsT τ (kpo τ)).1 0 (25 + j)) + (nI 1))]) (dt tX1_passes_2 64 rfl) hq rfl rfl rfl rfl ?_
        exact J_vret X rr (dt tX1_passes_2 65 rfl) (Nat.le_of_ble_eq_true rfl) (Nat.le_of_ble_eq_true rfl) ⟨rfl, ⟨gy, pu_o (ne_k L8 hq rfl) L8⟩, by rw [m_byT, show m_byS σ = sA τ 0 (upd (τ.1 0) (25 + j) (τ.1 0 (25 + j) + 1)) from by rw [m_byS, hτ, m_led, show lo (m_leaderNow τ) = some j from by rw [← e39, ej]; exact lo_nI (by omega)], kpo_led hj, puts_led hj WT.kle, ej]; exact H8.led hj hru⟩
    · intro i4 hi4 ih g3 gy k4 k5 k6
      show J Γ g3 0 0 58 [(0, .ref t), (1, .ref os), (2, .int (nI i4))] []
      obtain ⟨wn3, ot3, un3, hc3, hl3, hp3⟩ := k4
      have k4 : TK b g3 t T rc ru Al ((m_rcs (m_mvS σ) i4).1 0) := ⟨wn3, ot3, un3, hc3, hl3, hp3⟩
      have KS : Ct l D yX1_isStale cX1_isStale 4 (some .boolean) (rmC 3 64 0 0) [.ref t, .int (nI i4), .ref os] g3 (PS g3 (some (.int (m_due (m_rcs (m_mvS σ) i4) i4)))) := by
        by_cases h4 : i4 < 4
        · rw [← stale_L hp3.2.2.2.2.1.1 (hp3.2.2.1 i4 hi4) h4]; exact c_TstaleL l D g3 k5 hc3 h4
        · rw [← stale_H hp3.2.2.2.2.1.1 (hp3.2.2.1 i4 hi4) (by omega) hi4 k6]; exact c_TstaleH l D g3 k5 hc3 (by omega) hi4
      by_cases hd : m_due (m_rcs (m_mvS σ) i4) i4 = 0
      · refine J_iload_n X (dt tX1_passes_2 33 rfl) 2 rfl ?_
        refine J_bipush X (nI 7) (dt tX1_passes_2 34 rfl) (by decide) ?_
        refine J_icmp_ge X 95 (dt tX1_passes_2 35 rfl) (by decide) (fun c9 => absurd c9 (nI_ge hi4 (by omega))) (fun _ => ?_)
        refine J_aload_n X (dt tX1_passes_2 36 rfl) 1 rfl ?_
        refine J_iload_n X (dt tX1_passes_2 37 rfl) 2 rfl ?_
        refine J_aload_n X (dt tX1_passes_2 38 rfl) 0 rfl ?_
        refine J_iload_n X (dt tX1_passes_2 39 rfl) 2 rfl ?_
        refine J_aload_n X (dt tX1_passes_2 40 rfl) 1 rfl ?_
        refine J_callVR (rest := [.int (nI i4), .ref os]) X (T := TX1) (dt tX1_passes_2 41 rfl) KS (lw_V q1187 q1189 qs21 q70 q1190) okX1_isStale rfl (Or.inl hc3.ct) rfl ⟨Nat.le_of_ble_eq_true rfl, Nat.le_of_ble_eq_true rfl⟩ rfl (Nat.le_of_ble_eq_true rfl) (Nat.le_of_ble_eq_true rfl) (Nat.le_of_ble_eq_true rfl) (fun v9 h9 hp9 => ?_)
        obtain ⟨rfl, e9⟩ := hp9
        rw [e9]
        show J Γ g3 0 0 72 [(0, .ref t), (1, .ref os), (2, .int (nI i4))] [.int (m_due (m_rcs (m_mvS σ) i4) i4), .int (nI i4), .ref os]
        refine J_if_eq X 87 (dt tX1_passes_2 42 rfl) (by decide) (fun _ => ?_) (fun c9 => absurd (hd) c9)
        refine J_iconst X (nI 0) (dt tX1_passes_2 49 rfl) (by decide) ?_
        refine J_zast X (dt tX1_passes_2 50 rfl) k5 (by omega) (by decide) ?_
        refine J_iinc X (lv2 := [(2, .int (nI (i4 + 1))), (0, .ref t), (1, .ref os)]) (dt tX1_passes_2 51 rfl) 2 (nI (i4 + 1)) rfl (nI_add i4 1) rfl rfl ?_
        refine J_goto X (tgt := 58) (dt tX1_passes_2 52 rfl) (by decide) ?_
        have e1 : m_rcs (m_mvS σ) (i4 + 1) = sA (m_rcs (m_mvS σ) i4) 3 (upd ((m_rcs (m_mvS σ) i4).1 3) i4 0) := by rw [m_rcs, m_rc, m_rcT, m_rcO, if_pos hd, if_pos hd]
        refine J_sub [1, 2, 0] rfl ?_
        exact ih _ _ (by rw [e1]; exact Kos k4 k5 bo) (pu_s _ _ _) (by rw [e1]; exact rc_k6 k6 isB_0)
      · refine J_iload_n X (dt tX1_passes_2 33 rfl) 2 rfl ?_
        refine J_bipush X (nI 7) (dt tX1_passes_2 34 rfl) (by decide) ?_
        refine J_icmp_ge X 95 (dt tX1_passes_2 35 rfl) (by decide) (fun c9 => absurd c9 (nI_ge hi4 (by omega))) (fun _ => ?_)
        refine J_aload_n X (dt tX1_passes_2 36 rfl) 1 rfl ?_
        refine J_iload_n X (dt tX1_passes_2 37 rfl) 2 rfl ?_
        refine J_aload_n X (dt tX1_passes_2 38 rfl) 0 rfl ?_
        refine J_iload_n X (dt tX1_passes_2 39 rfl) 2 rfl ?_
        refine J_aload_n X (dt tX1_passes_2 40 rfl) 1 rfl ?_
        refine J_callVR (rest := [.int (nI i4), .ref os]) X (T := TX1) (dt tX1_passes_2 41 rfl) KS (lw_V q1187 q1189 qs21 q70 q1190) okX1_isStale rfl (Or.inl hc3.ct) rfl ⟨Nat.le_of_ble_eq_true rfl, Nat.le_of_ble_eq_true rfl⟩ rfl (Nat.le_of_ble_eq_true rfl) (Nat.le_of_ble_eq_true rfl) (Nat.le_of_ble_eq_true rfl) (fun v9 h9 hp9 => ?_)
        obtain ⟨rfl, e9⟩ := hp9
        rw [e9]
        show J Γ g3 0 0 72 [(0, .ref t), (1, .ref os), (2, .int (nI i4))] [.int (m_due (m_rcs (m_mvS σ) i4) i4), .int (nI i4), .ref os]
        refine J_if_eq X 87 (dt tX1_passes_2 42 rfl) (by decide) (fun c9 => absurd c9 (hd)) (fun _ => ?_)
        refine J_aload_n X (dt tX1_passes_2 43 rfl) 0 rfl ?_
        refine J_iload_n X (dt tX1_passes_2 44 rfl) 2 rfl ?_
        refine J_callVR (rest := [.int (nI i4), .ref os]) X (T := TX1) (dt tX1_passes_2 45 rfl) (c_Truns l D _ (σ := (m_rcs (m_mvS σ) i4)) (r := i4) (k4.more k5 rfl rfl) (by omega) (fun _ => ⟨trivial, trivial⟩)) (lw_V q528 q530 qs5 q70 q531) okX1_runs rfl (Or.inl hc3.ct) rfl ⟨Nat.le_of_ble_eq_true rfl, Nat.le_of_ble_eq_true rfl⟩ rfl (Nat.le_of_ble_eq_true rfl) (Nat.le_of_ble_eq_true rfl) (Nat.le_of_ble_eq_true rfl) (fun v9 g7 hp9 => ?_)
        obtain ⟨x8, rfl, bx8, qx8, H9⟩ := hp9
        show J Γ g7 0 0 80 [(0, .ref t), (1, .ref os), (2, .int (nI i4))] [.int x8, .int (nI i4), .ref os]
        have HR := (H9.base (Ext.new bo)).mono (S' := Al) (fun i hi _ => Or.inl trivial)
        have L5 : g7 os = some (eZ 7 gy) := H9.ext _ _ (pu_s _ _ _)
        have ex : x8 = m_runsR (m_rcs (m_mvS σ) i4) i4 := qx8 trivial
        by_cases hx : m_runsR (m_rcs (m_mvS σ) i4) i4 = 0
        · refine J_if_eq X 87 (dt tX1_passes_2 46 rfl) (by decide) (fun _ => ?_) (fun c9 => absurd (ex.trans hx) c9)
          refine J_iconst X (nI 0) (dt tX1_passes_2 49 rfl) (by decide) ?_
          refine J_zast X (dt tX1_passes_2 50 rfl) L5 (by omega) (by decide) ?_
          refine J_iinc X (lv2 := [(2, .int (nI (i4 + 1))), (0, .ref t), (1, .ref os)]) (dt tX1_passes_2 51 rfl) 2 (nI (i4 + 1)) rfl (nI_add i4 1) rfl rfl ?_
          refine J_goto X (tgt := 58) (dt tX1_passes_2 52 rfl) (by decide) ?_
          have e1 : m_rcs (m_mvS σ) (i4 + 1) = sA (m_runsT (m_rcs (m_mvS σ) i4) i4) 3 (upd ((m_runsT (m_rcs (m_mvS σ) i4) i4).1 3) i4 0) := by rw [m_rcs, m_rc, m_rcT, m_rcO, if_neg hd, if_neg hd, if_pos hx]
          refine J_sub [1, 2, 0] rfl ?_
          exact ih _ _ (by rw [e1]; exact Kos HR L5 bo) (pu_s _ _ _) (by rw [e1]; exact rc_k6 k6 isB_0)
        · refine J_if_eq X 87 (dt tX1_passes_2 46 rfl) (by decide) (fun c9 => absurd c9 (fun z => hx (ex.symm.trans z))) (fun _ => ?_)
          refine J_iconst X (nI 1) (dt tX1_passes_2 47 rfl) (by decide) ?_
          refine J_goto X (tgt := 88) (dt tX1_passes_2 48 rfl) (by decide) ?_
          refine J_zast X (dt tX1_passes_2 50 rfl) L5 (by omega) (by decide) ?_
          refine J_iinc X (lv2 := [(2, .int (nI (i4 + 1))), (0, .ref t), (1, .ref os)]) (dt tX1_passes_2 51 rfl) 2 (nI (i4 + 1)) rfl (nI_add i4 1) rfl rfl ?_
          refine J_goto X (tgt := 58) (dt tX1_passes_2 52 rfl) (by decide) ?_
          have e1 : m_rcs (m_mvS σ) (i4 + 1) = sA (m_runsT (m_rcs (m_mvS σ) i4) i4) 3 (upd ((m_runsT (m_rcs (m_mvS σ) i4) i4).1 3) i4 1) := by rw [m_rcs, m_rc, m_rcT, m_rcO, if_neg hd, if_neg hd, if_neg hx]
          refine J_sub [1, 2, 0] rfl ?_
          exact ih _ _ (by rw [e1]; exact Kos HR L5 bo) (pu_s _ _ _) (by rw [e1]; exact rc_k6 k6 isB_1)
  · intro i2 hi2 ih g1  k1 k2 k3
    show J Γ g1 0 0 12 [(0, .ref t), (1, .ref os), (2, .int (nI i2))] []
    cases hq : ru i2 with
    | none =>
      refine J_iload_n X (dt tX1_passes_2 8 rfl) 2 rfl ?_
      refine J_bipush X (nI 8) (dt tX1_passes_2 9 rfl) (by decide) ?_
      refine J_icmp_ge X 56 (dt tX1_passes_2 10 rfl) (by decide) (fun c9 => absurd c9 (nI_ge hi2 (by omega))) (fun _ => ?_)
      refine J_aload_n X (dt tX1_passes_2 11 rfl) 0 rfl ?_
      refine g_X1_11_1 X (dt tX1_passes_2 12 rfl) k1.ct rfl ?_
      refine J_iload_n X (dt tX1_passes_2 13 rfl) 2 rfl ?_
      refine J_rald X (dt tX1_passes_2 14 rfl) k1.ln (by omega) (by decide) ?_
      refine J_topq (congrArg va_rf hq) ?_
      refine J_ifnull X none 50 (dt tX1_passes_2 15 rfl) (by decide) (fun _ => ?_) (fun _ c9 => by cases c9)
      refine J_iinc X (lv2 := [(2, .int (nI (i2 + 1))), (0, .ref t), (1, .ref os)]) (dt tX1_passes_2 29 rfl) 2 (nI (i2 + 1)) rfl (nI_add i2 1) rfl rfl ?_
      refine J_goto X (tgt := 12) (dt tX1_passes_2 30 rfl) (by decide) ?_
      have en := m_mv_n hh hi2 hq
      refine J_sub [1, 2, 0] rfl ?_
      exact ih _  (by rw [en]; exact k1) (by rw [en]; exact k2) k3
    | some q9 =>
      refine J_iload_n X (dt tX1_passes_2 8 rfl) 2 rfl ?_
      refine J_bipush X (nI 8) (dt tX1_passes_2 9 rfl) (by decide) ?_
      refine J_icmp_ge X 56 (dt tX1_passes_2 10 rfl) (by decide) (fun c9 => absurd c9 (nI_ge hi2 (by omega))) (fun _ => ?_)
      refine J_aload_n X (dt tX1_passes_2 11 rfl) 0 rfl ?_
      refine g_X1_11_1 X (dt tX1_passes_2 12 rfl) k1.ct rfl ?_
      refine J_iload_n X (dt tX1_passes_2 13 rfl) 2 rfl ?_
      refine J_rald X (dt tX1_passes_2 14 rfl) k1.ln (by omega) (by decide) ?_
      refine J_topq (rf_s hq) ?_
      refine J_ifnull X (some q9) 50 (dt tX1_passes_2 15 rfl) (by decide) (fun c9 => by cases c9) (fun _ _ => ?_)
      refine J_aload_n X (dt tX1_passes_2 16 rfl) 0 rfl ?_
      refine g_X1_11_1 X (dt tX1_passes_2 17 rfl) k1.ct rfl ?_
      refine J_iload_n X (dt tX1_passes_2 18 rfl) 2 rfl ?_
      refine J_rald X (dt tX1_passes_2 19 rfl) k1.ln (by omega) (by decide) ?_
      refine J_topq (rf_s hq) ?_
      refine J_dup X (dt tX1_passes_2 20 rfl) rfl ?_
      refine g_X1_167_10 X (dt tX1_passes_2 21 rfl) (k1.cu hi2 hq) rfl ?_
      refine J_aload_n X (dt tX1_passes_2 22 rfl) 0 rfl ?_
      refine g_X1_11_1 X (dt tX1_passes_2 23 rfl) k1.ct rfl ?_
      refine J_iload_n X (dt tX1_passes_2 24 rfl) 2 rfl ?_
      refine J_rald X (dt tX1_passes_2 25 rfl) k1.ln (by omega) (by decide) ?_
      refine J_topq (rf_s hq) ?_
      refine g_X1_164_10 X (dt tX1_passes_2 26 rfl) (k1.cu hi2 hq) rfl ?_
      refine J_iadd X (dt tX1_passes_2 27 rfl) ?_
      refine p_X1_167_10 X (fs2 := [.int (nI i2), .int ((m_mv (m_tick (σ.1 0)) i2 (9 + i2)) + (m_mv (m_tick (σ.1 0)) i2 (17 + i2))), .int (m_mv (m_tick (σ.1 0)) i2 (17 + i2)), .int (m_mv (m_tick (σ.1 0)) i2 (25 + i2))]) (dt tX1_passes_2 28 rfl) (k1.cu hi2 hq) rfl rfl rfl rfl ?_
      refine J_iinc X (lv2 := [(2, .int (nI (i2 + 1))), (0, .ref t), (1, .ref os)]) (dt tX1_passes_2 29 rfl) 2 (nI (i2 + 1)) rfl (nI_add i2 1) rfl rfl ?_
      refine J_goto X (tgt := 12) (dt tX1_passes_2 30 rfl) (by decide) ?_
      refine J_sub [1, 2, 0] rfl ?_
      exact ih _  (k1.mvS hh hi2 hq) ((k2.keep (Kp.put (k1.cu hi2 hq) rfl)).row (by rw [m_mv, pk_un (by omega)]) (fun k _ _ => by rw [m_mv, pk_un (by omega)])) (pu_o (Ne.symm (ne_oa (k1.cu hi2 hq) k3)) k3)
