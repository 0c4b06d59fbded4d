/-! printed by gen/compw.py -/
set_option maxRecDepth 100000
theorem q84 : (Jvm.Cond.initialized "java/lang/String") ∈ lw_all := lw_g (lw_at lw_m1 16 rfl) rfl
theorem q91 : (Jvm.Cond.initialized "java/lang/ArrayIndexOutOfBoundsException") ∈ lw_all := lw_g (lw_at lw_m1 23 rfl) rfl
theorem q357 : (Jvm.Cond.arrayClass Jvm.ClassFile.FieldType.byte) ∈ lw_all := lw_g (lw_at lw_m2 49 rfl) rfl
theorem q385 : (Jvm.Cond.instantiable "java/lang/ArrayIndexOutOfBoundsException" (6 : Nat)) ∈ lw_all := lw_g (lw_at lw_m2 77 rfl) rfl
theorem q386 : (Jvm.Cond.instanceMethod ({ cls := "java/lang/ArrayIndexOutOfBoundsException", name := "<init>", desc := "(Ljava/lang/String;)V" } : Jvm.MethodName)) ∈ lw_all := lw_g (lw_at lw_m2 78 rfl) rfl
theorem q387 : (Jvm.Cond.code ({ cls := "java/lang/ArrayIndexOutOfBoundsException", name := "<init>", desc := "(Ljava/lang/String;)V" } : Jvm.MethodName) prog_16_method_2_code (2 : Nat) (Option.none : Option Jvm.ClassFile.FieldType)) ∈ lw_all := lw_g (lw_at lw_m2 79 rfl) rfl
theorem q388 : (Jvm.Cond.methodLink "java/lang/ArrayIndexOutOfBoundsException" (7 : Nat) ({ cls := "java/lang/IndexOutOfBoundsException", name := "<init>", desc := "(Ljava/lang/String;)V" } : Jvm.MethodName)) ∈ lw_all := lw_g (lw_at lw_m2 80 rfl) rfl
theorem q389 : (Jvm.Cond.instanceMethod ({ cls := "java/lang/IndexOutOfBoundsException", name := "<init>", desc := "(Ljava/lang/String;)V" } : Jvm.MethodName)) ∈ lw_all := lw_g (lw_at lw_m2 81 rfl) rfl
theorem q390 : (Jvm.Cond.code ({ cls := "java/lang/IndexOutOfBoundsException", name := "<init>", desc := "(Ljava/lang/String;)V" } : Jvm.MethodName) prog_22_method_2_code (2 : Nat) (Option.none : Option Jvm.ClassFile.FieldType)) ∈ lw_all := lw_g (lw_at lw_m2 82 rfl) rfl
theorem q391 : (Jvm.Cond.methodLink "java/lang/IndexOutOfBoundsException" (7 : Nat) ({ cls := "java/lang/RuntimeException", name := "<init>", desc := "(Ljava/lang/String;)V" } : Jvm.MethodName)) ∈ lw_all := lw_g (lw_at lw_m2 83 rfl) rfl
theorem q392 : (Jvm.Cond.instanceMethod ({ cls := "java/lang/RuntimeException", name := "<init>", desc := "(Ljava/lang/String;)V" } : Jvm.MethodName)) ∈ lw_all := lw_g (lw_at lw_m2 84 rfl) rfl
theorem q393 : (Jvm.Cond.code ({ cls := "java/lang/RuntimeException", name := "<init>", desc := "(Ljava/lang/String;)V" } : Jvm.MethodName) prog_28_method_2_code (2 : Nat) (Option.none : Option Jvm.ClassFile.FieldType)) ∈ lw_all := lw_g (lw_at lw_m2 85 rfl) rfl
theorem q394 : (Jvm.Cond.methodLink "java/lang/RuntimeException" (7 : Nat) ({ cls := "java/lang/Exception", name := "<init>", desc := "(Ljava/lang/String;)V" } : Jvm.MethodName)) ∈ lw_all := lw_g (lw_at lw_m2 86 rfl) rfl
theorem q395 : (Jvm.Cond.instanceMethod ({ cls := "java/lang/Exception", name := "<init>", desc := "(Ljava/lang/String;)V" } : Jvm.MethodName)) ∈ lw_all := lw_g (lw_at lw_m2 87 rfl) rfl
theorem q396 : (Jvm.Cond.code ({ cls := "java/lang/Exception", name := "<init>", desc := "(Ljava/lang/String;)V" } : Jvm.MethodName) prog_20_method_2_code (2 : Nat) (Option.none : Option Jvm.ClassFile.FieldType)) ∈ lw_all := lw_g (lw_at lw_m2 88 rfl) rfl
theorem q397 : (Jvm.Cond.methodLink "java/lang/Exception" (7 : Nat) ({ cls := "java/lang/Throwable", name := "<init>", desc := "(Ljava/lang/String;)V" } : Jvm.MethodName)) ∈ lw_all := lw_g (lw_at lw_m2 89 rfl) rfl
theorem q398 : (Jvm.Cond.instanceMethod ({ cls := "java/lang/Throwable", name := "<init>", desc := "(Ljava/lang/String;)V" } : Jvm.MethodName)) ∈ lw_all := lw_g (lw_at lw_m2 90 rfl) rfl
theorem q399 : (Jvm.Cond.code ({ cls := "java/lang/Throwable", name := "<init>", desc := "(Ljava/lang/String;)V" } : Jvm.MethodName) prog_35_method_2_code (2 : Nat) (Option.none : Option Jvm.ClassFile.FieldType)) ∈ lw_all := lw_g (lw_at lw_m2 91 rfl) rfl
theorem q410 : (Jvm.Cond.selects "java/lang/ArrayIndexOutOfBoundsException" ({ cls := "java/lang/Throwable", name := "fillInStackTrace", desc := "()Ljava/lang/Throwable;" } : Jvm.MethodName) ({ cls := "java/lang/Throwable", name := "fillInStackTrace", desc := "()Ljava/lang/Throwable;" } : Jvm.MethodName)) ∈ lw_all := lw_g (lw_at lw_m2 102 rfl) rfl
theorem q423 : (Jvm.Cond.lays "java/lang/ArrayIndexOutOfBoundsException" "java/lang/Throwable" "backtrace" "Ljava/lang/Object;") ∈ lw_all := lw_g (lw_at lw_m2 115 rfl) rfl
theorem q425 : (Jvm.Cond.lays "java/lang/ArrayIndexOutOfBoundsException" "java/lang/Throwable" "detailMessage" "Ljava/lang/String;") ∈ lw_all := lw_g (lw_at lw_m2 117 rfl) rfl
theorem q427 : (Jvm.Cond.lays "java/lang/ArrayIndexOutOfBoundsException" "java/lang/Throwable" "cause" "Ljava/lang/Throwable;") ∈ lw_all := lw_g (lw_at lw_m2 119 rfl) rfl
theorem q429 : (Jvm.Cond.lays "java/lang/ArrayIndexOutOfBoundsException" "java/lang/Throwable" "stackTrace" "[Ljava/lang/StackTraceElement;") ∈ lw_all := lw_g (lw_at lw_m2 121 rfl) rfl
theorem q433 : (Jvm.Cond.lays "java/lang/ArrayIndexOutOfBoundsException" "java/lang/Throwable" "suppressedExceptions" "Ljava/util/List;") ∈ lw_all := lw_g (lw_at lw_m2 125 rfl) rfl
theorem q436 : (Jvm.Cond.castable "java/lang/ArrayIndexOutOfBoundsException" "java/lang/ArrayIndexOutOfBoundsException") ∈ lw_tbl := lw_at lw_m2 128 rfl
theorem q438 : (Jvm.Cond.declares ({ cls := "java/lang/IndexOutOfBoundsException", name := "<init>", desc := "(Ljava/lang/String;)V" } : Jvm.MethodName)) ∈ lw_tbl := lw_at lw_m2 130 rfl
theorem q440 : (Jvm.Cond.declares ({ cls := "java/lang/RuntimeException", name := "<init>", desc := "(Ljava/lang/String;)V" } : Jvm.MethodName)) ∈ lw_tbl := lw_at lw_m2 132 rfl
theorem q442 : (Jvm.Cond.declares ({ cls := "java/lang/Exception", name := "<init>", desc := "(Ljava/lang/String;)V" } : Jvm.MethodName)) ∈ lw_tbl := lw_at lw_m2 134 rfl
theorem q444 : (Jvm.Cond.declares ({ cls := "java/lang/Throwable", name := "<init>", desc := "(Ljava/lang/String;)V" } : Jvm.MethodName)) ∈ lw_tbl := lw_at lw_m2 136 rfl
theorem q445 : (Jvm.Cond.selects "java/lang/ArrayIndexOutOfBoundsException" ({ cls := "java/lang/Throwable", name := "fillInStackTrace", desc := "(I)Ljava/lang/Throwable;" } : Jvm.MethodName) ({ cls := "java/lang/Throwable", name := "fillInStackTrace", desc := "(I)Ljava/lang/Throwable;" } : Jvm.MethodName)) ∈ lw_all := lw_g (lw_at lw_m2 137 rfl) rfl
theorem q455 : (Jvm.Cond.instantiable "java/lang/String" (4 : Nat)) ∈ lw_all := lw_g (lw_at lw_m2 147 rfl) rfl
theorem q456 : (Jvm.Cond.laysFinal "java/lang/String" "java/lang/String" "value" "[B") ∈ lw_all := lw_g (lw_at lw_m2 148 rfl) rfl
theorem q457 : (Jvm.Cond.soleField "java/lang/String" "value") ∈ lw_all := lw_g (lw_at lw_m2 149 rfl) rfl
theorem q458 : (Jvm.Cond.laysFinal "java/lang/String" "java/lang/String" "coder" "B") ∈ lw_all := lw_g (lw_at lw_m2 150 rfl) rfl
theorem q459 : (Jvm.Cond.soleField "java/lang/String" "coder") ∈ lw_all := lw_g (lw_at lw_m2 151 rfl) rfl
def twd (w : Cond) : Bool := match w with
  | .castable _ _ => true
  | .declares _ => true
  | _ => false
theorem memH {P : Cond → Prop} {a : Cond} {L : List Cond} (h1 : P a) (h2 : ∀ w ∈ L, P w) : ∀ w ∈ a :: L, P w := fun w hw => (List.mem_cons.mp hw).elim (fun e => e ▸ h1) (h2 w)
theorem memA {P : Cond → Prop} {L M : List Cond} (h1 : ∀ w ∈ L, P w) (h2 : ∀ w ∈ M, P w) : ∀ w ∈ L ++ M, P w := fun w hw => (List.mem_append.mp hw).elim (h1 w) (h2 w)
theorem memN {P : Cond → Prop} : ∀ w ∈ ([] : List Cond), P w := fun _ h => nomatch h
/-- the words of the machine's ArrayIndexOutOfBoundsException -/
theorem aio_words {s : State} {args : Array Value} (hts : ∀ w ∈ lw_all, w.before args s = true) (htw : ∀ w ∈ lw_tbl, twd w = true → w.before args s = true) (lU : (Cond.laysStatic Bundle.tN "UNASSIGNED_STACK" Bundle.steD).before args s = true) (lN : (Cond.laysStatic Bundle.tN "SUPPRESSED_SENTINEL" Bundle.listD).before args s = true)
    (iU : (Cond.isRef (.static Bundle.tN "UNASSIGNED_STACK" Bundle.steD)).before args s = true) (iN : (Cond.isRef (.static Bundle.tN "SUPPRESSED_SENTINEL" Bundle.listD)).before args s = true) : ∀ w ∈ Bundle.messageArmAtoms "java/lang/ArrayIndexOutOfBoundsException" ["java/lang/IndexOutOfBoundsException", "java/lang/RuntimeException", "java/lang/Exception"], w.before args s = true := by
  refine memA (memA (memA (memA (thr_words hts lU lN) ?_) ?_) ?_) ?_
  · exact memH (hts _ q398) (memH (hts _ q399) (memH (hts _ q419) (memH (hts _ q449) (memN))))
  · exact memA (memH (hts _ q386) (memH (hts _ q387) (memH (hts _ q388) (memH (hts _ q389) (memH (htw _ q438 rfl) (memN)))))) (memA (memH (hts _ q389) (memH (hts _ q390) (memH (hts _ q391) (memH (hts _ q392) (memH (htw _ q440 rfl) (memN)))))) (memA (memH (hts _ q392) (memH (hts _ q393) (memH (hts _ q394) (memH (hts _ q395) (memH (htw _ q442 rfl) (memN)))))) (memH (hts _ q395) (memH (hts _ q396) (memH (hts _ q397) (memH (hts _ q398) (memH (htw _ q444 rfl) (memN))))))))
  · exact memH (hts _ q84) (memH (hts _ q455) (memH (hts _ q357) (memH (hts _ q456) (memH (hts _ q458) (memH (hts _ q457) (memH (hts _ q459) (memN)))))))
  · exact memH (hts _ q91) (memH (hts _ q385) (memH (htw _ q436 rfl) (memH (hts _ q445) (memH (hts _ q410) (memH (hts _ q427) (memH (hts _ q429) (memH (hts _ q433) (memH (hts _ q425) (memH (iU) (memH (iN) (memH (hts _ q451) (memH (hts _ q450) (memH (hts _ q423) (memN))))))))))))))
theorem aio_good : ∀ w ∈ vx_atM "java/lang/ArrayIndexOutOfBoundsException" ["java/lang/IndexOutOfBoundsException", "java/lang/RuntimeException", "java/lang/Exception"], vx_ot w = true := by decide +kernel
theorem TW.at {s : State} {args : Array Value} (h : TW s) : ∀ w ∈ lw_tbl, twd w = true → w.before args s = true := by
  intro w hw hk
  unfold twd at hk
  split at hk
  · exact va_any rfl (h _ hw rfl)
  · exact va_any rfl (h _ hw rfl)
  · cases hk
section JO
variable {l : Launch} {D : va_G} {cc : ByteArray} {own : String} {nL : Nat} {rm : Room} {Γ : Cxt} {h : PH} {k n pc nx : Nat} {lv : List (Nat × Value)} {st : List Value}
set_option maxHeartbeats 4000000 in
/-- a place outside an array of runners -/
theorem J_raldOut (X : Cx l D cc own nL rm Γ) (hl9 : l.stackTraces = false) {a N : Nat} {f : Nat → Option Nat} {i : Int32} (d : At cc pc .aaload 1 nx) (ha : h a = some (eR N f)) (hN : N < 2 ^ 31) (hout : i < 0 ∨ N ≤ i.toNatClampNeg) (hfr : 7 < rm.frames) (hlo : (st.map fun v => v.category).sum + 10240 ≤ rm.locals) (hk : k + 3 ≤ rm.cells) (hn : n + (212 + 10) ≤ rm.slots)
    (kx : ∀ q, JX Γ h (k + 3) (n + (212 + 10)) pc lv "java/lang/ArrayIndexOutOfBoundsException" q) : J Γ h k n pc lv (.int i :: .ref a :: st) := by
  obtain ⟨p, l', e, R, s, m, args, below, meth, co, D', A, Q⟩ := Γ
  obtain ⟨rfl, rfl, rfl, hx, hb, hml, hown, hts, hK, hA, hlk, hE⟩ := X
  obtain ⟨hd, rfl⟩ := d
  intro H locs ls hh hS hl T hT X2
  obtain ⟨h1, -, -, -, -, -, h7⟩ := hE
  have key := vx_vm (p := p) (l := l') (e := e) (R := R) (s := s) (m := m) (args := args) (below := below) (meth := meth) (c := co) (H := H) (locs := locs) (cells := k) (slots := n) (pc := pc) (ls := ls) (rest := st) (Q := Q) hx hl9 (cls := "java/lang/ArrayIndexOutOfBoundsException") (text := (toString "Index " ++ toString i ++ toString " out of bounds for length " ++ toString N : String)) (names := ["java/lang/IndexOutOfBoundsException", "java/lang/RuntimeException", "java/lang/Exception"]) (nb := 212) (A := A)
    (by decide) (by decide) (by decide) (by decide) (fun w hw => aio_words hts h1.at h7.2.2.2.1.2.word h7.2.2.2.2.1.2.word (vx_isRefq h7.2.2.2.1.1) (vx_isRefq h7.2.2.2.2.1.1) w (List.mem_filter.mp hw).1) aio_good h7.2.2.2.1 h7.2.2.2.2.1 hS hl.1 (index_text_modelled i N) (index_text_bytes i hN) (by omega) (by show 3 + 4 < R.frames; exact hfr) hlo (by show 13 * 3 + 55 ≤ 10240; omega) hk hn hlk
    (fun H1 q9 ce z1 z2 z3 z4 z5 z6 => kx q9 H1 locs ls st ce (fun b eb hbb => ⟨(hh b eb hbb).1.kept (z2 b (hh.lt hbb)), (hh b eb hbb).2⟩) z3 hl z4 z5 z6 (fun z => absurd z (by decide)))
  obtain ⟨t, stp, q⟩ := key T hT X2
  refine ⟨t, ?_, q⟩
  obtain ⟨q0, hq0⟩ := wl_at (D := D') ha (hh.lt ha)
  have g1 := X2.aaloadOut hx (by rw [hT]; exact wl_P hh q0 _ hq0) ((hK.2 4 _ rfl).1 N (fun j => va_rf (f j))) (j := i) (by show (i < 0 ∨ (arrV _ _ _).slots.size ≤ _); rw [arrV_size]; exact hout) (g := F0 m pc ls (.int i :: .ref a :: st)) rfl (rest := st) rfl (by rw [hb]; exact hd) t
  simp only [arrV_size] at g1
  exact g1 stp
end JO
