/-! printed by gen/compw.py -/
set_option maxRecDepth 100000
/-- the bytes of a made class's method -/
def fwc (n : Nat) : ByteArray := ⟨fwb n⟩
section FW
variable {p : Program} {l : Launch} {e : Env} {R : Room} {s : State} {args : Array Value} {below : List Frame} {meth : Method} {c : Code} {U : State} {locs : List Loc} {cells slots : Nat} {mk : MethodId}
theorem fw1_0 : decode (fwc 1) 0 = .ok (.aload_n 0, 1) := by decide +kernel
theorem fw1_1 : decode (fwc 1) 1 = .ok (.getfield 15, 3) := by decide +kernel
theorem fw1_4 : decode (fwc 1) 4 = .ok (.aload_n 1, 1) := by decide +kernel
theorem fw1_5 : decode (fwc 1) 5 = .ok (.invokestatic 23, 3) := by decide +kernel
theorem fw1_8 : decode (fwc 1) 8 = .ok (.ireturn, 1) := by decide +kernel
set_option maxHeartbeats 4000000 in
theorem fwd1 (Y : Stand p l e R s mk args below meth c U locs cells slots) (hexec : p.tables.exec = Jvm.exec) (hbytes : c.code = fwc 1) {b tr : Addr} {cell : Cell} (hcell : U.heap[b]? = some cell) (hkn : cell.vm ≠ .unknown) (hf : ∀ i, i < 1 → ∃ f9 : Field, U.vm.fieldReady mk.cls (14 + 1 + 2 * i) mk.cls f9 ∧ f9.isStatic = false ∧ f9.slot = i) {f : Nat → Int32} (hsl : ∀ i, i < 1 → cell.slots[i]? = some (.int (f i))) {target : State}
    (h : Steps p.tables e below (U.setTop ({ method := mk, pc := 5, locals := #[.val (.ref b), .val (.ref tr)], stack := [.ref tr, .int (f 0)], locked := none } : JFrame)) target) : Steps p.tables e below (U.setTop ({ method := mk, pc := 0, locals := #[.val (.ref b), .val (.ref tr)], stack := [], locked := none } : JFrame)) target := by
  have hs : U.topJava?.isSome := Y.here.top
  obtain ⟨g0, r0, t0, u0⟩ := hf 0 (by omega)
  jvm_step Y.here [hexec, hbytes, fw1_0, Value.isRef]
  jvm_step Y.here [hexec, hbytes, fw1_1, getfield.wp_ready (e := e) (s := U) (c := mk.cls) (field := g0) (a := b) (rest := []) (cell := cell) (v := .int (f 0)) (f := ({ method := mk, pc := 1, locals := #[.val (.ref b), .val (.ref tr)], stack := [.ref b], locked := none } : JFrame)) hs r0 t0 rfl hcell hkn (by rw [u0]; exact hsl 0 (by omega))]
  jvm_step Y.here [hexec, hbytes, fw1_4, Value.isRef]
  exact h
theorem fw2_0 : decode (fwc 2) 0 = .ok (.aload_n 0, 1) := by decide +kernel
theorem fw2_1 : decode (fwc 2) 1 = .ok (.getfield 16, 3) := by decide +kernel
theorem fw2_4 : decode (fwc 2) 4 = .ok (.aload_n 0, 1) := by decide +kernel
theorem fw2_5 : decode (fwc 2) 5 = .ok (.getfield 18, 3) := by decide +kernel
theorem fw2_8 : decode (fwc 2) 8 = .ok (.aload_n 1, 1) := by decide +kernel
theorem fw2_9 : decode (fwc 2) 9 = .ok (.invokestatic 26, 3) := by decide +kernel
theorem fw2_12 : decode (fwc 2) 12 = .ok (.ireturn, 1) := by decide +kernel
set_option maxHeartbeats 4000000 in
theorem fwd2 (Y : Stand p l e R s mk args below meth c U locs cells slots) (hexec : p.tables.exec = Jvm.exec) (hbytes : c.code = fwc 2) {b tr : Addr} {cell : Cell} (hcell : U.heap[b]? = some cell) (hkn : cell.vm ≠ .unknown) (hf : ∀ i, i < 2 → ∃ f9 : Field, U.vm.fieldReady mk.cls (14 + 2 + 2 * i) mk.cls f9 ∧ f9.isStatic = false ∧ f9.slot = i) {f : Nat → Int32} (hsl : ∀ i, i < 2 → cell.slots[i]? = some (.int (f i))) {target : State}
    (h : Steps p.tables e below (U.setTop ({ method := mk, pc := 9, locals := #[.val (.ref b), .val (.ref tr)], stack := [.ref tr, .int (f 1), .int (f 0)], locked := none } : JFrame)) target) : Steps p.tables e below (U.setTop ({ method := mk, pc := 0, locals := #[.val (.ref b), .val (.ref tr)], stack := [], locked := none } : JFrame)) target := by
  have hs : U.topJava?.isSome := Y.here.top
  obtain ⟨g0, r0, t0, u0⟩ := hf 0 (by omega)
  obtain ⟨g1, r1, t1, u1⟩ := hf 1 (by omega)
  jvm_step Y.here [hexec, hbytes, fw2_0, Value.isRef]
  jvm_step Y.here [hexec, hbytes, fw2_1, getfield.wp_ready (e := e) (s := U) (c := mk.cls) (field := g0) (a := b) (rest := []) (cell := cell) (v := .int (f 0)) (f := ({ method := mk, pc := 1, locals := #[.val (.ref b), .val (.ref tr)], stack := [.ref b], locked := none } : JFrame)) hs r0 t0 rfl hcell hkn (by rw [u0]; exact hsl 0 (by omega))]
  jvm_step Y.here [hexec, hbytes, fw2_4, Value.isRef]
  jvm_step Y.here [hexec, hbytes, fw2_5, getfield.wp_ready (e := e) (s := U) (c := mk.cls) (field := g1) (a := b) (rest := [.int (f 0)]) (cell := cell) (v := .int (f 1)) (f := ({ method := mk, pc := 5, locals := #[.val (.ref b), .val (.ref tr)], stack := [.ref b, .int (f 0)], locked := none } : JFrame)) hs r1 t1 rfl hcell hkn (by rw [u1]; exact hsl 1 (by omega))]
  jvm_step Y.here [hexec, hbytes, fw2_8, Value.isRef]
  exact h
theorem fw3_0 : decode (fwc 3) 0 = .ok (.aload_n 0, 1) := by decide +kernel
theorem fw3_1 : decode (fwc 3) 1 = .ok (.getfield 17, 3) := by decide +kernel
theorem fw3_4 : decode (fwc 3) 4 = .ok (.aload_n 0, 1) := by decide +kernel
theorem fw3_5 : decode (fwc 3) 5 = .ok (.getfield 19, 3) := by decide +kernel
theorem fw3_8 : decode (fwc 3) 8 = .ok (.aload_n 0, 1) := by decide +kernel
theorem fw3_9 : decode (fwc 3) 9 = .ok (.getfield 21, 3) := by decide +kernel
theorem fw3_12 : decode (fwc 3) 12 = .ok (.aload_n 1, 1) := by decide +kernel
theorem fw3_13 : decode (fwc 3) 13 = .ok (.invokestatic 29, 3) := by decide +kernel
theorem fw3_16 : decode (fwc 3) 16 = .ok (.ireturn, 1) := by decide +kernel
set_option maxHeartbeats 4000000 in
theorem fwd3 (Y : Stand p l e R s mk args below meth c U locs cells slots) (hexec : p.tables.exec = Jvm.exec) (hbytes : c.code = fwc 3) {b tr : Addr} {cell : Cell} (hcell : U.heap[b]? = some cell) (hkn : cell.vm ≠ .unknown) (hf : ∀ i, i < 3 → ∃ f9 : Field, U.vm.fieldReady mk.cls (14 + 3 + 2 * i) mk.cls f9 ∧ f9.isStatic = false ∧ f9.slot = i) {f : Nat → Int32} (hsl : ∀ i, i < 3 → cell.slots[i]? = some (.int (f i))) {target : State}
    (h : Steps p.tables e below (U.setTop ({ method := mk, pc := 13, locals := #[.val (.ref b), .val (.ref tr)], stack := [.ref tr, .int (f 2), .int (f 1), .int (f 0)], locked := none } : JFrame)) target) : Steps p.tables e below (U.setTop ({ method := mk, pc := 0, locals := #[.val (.ref b), .val (.ref tr)], stack := [], locked := none } : JFrame)) target := by
  have hs : U.topJava?.isSome := Y.here.top
  obtain ⟨g0, r0, t0, u0⟩ := hf 0 (by omega)
  obtain ⟨g1, r1, t1, u1⟩ := hf 1 (by omega)
  obtain ⟨g2, r2, t2, u2⟩ := hf 2 (by omega)
  jvm_step Y.here [hexec, hbytes, fw3_0, Value.isRef]
  jvm_step Y.here [hexec, hbytes, fw3_1, getfield.wp_ready (e := e) (s := U) (c := mk.cls) (field := g0) (a := b) (rest := []) (cell := cell) (v := .int (f 0)) (f := ({ method := mk, pc := 1, locals := #[.val (.ref b), .val (.ref tr)], stack := [.ref b], locked := none } : JFrame)) hs r0 t0 rfl hcell hkn (by rw [u0]; exact hsl 0 (by omega))]
  jvm_step Y.here [hexec, hbytes, fw3_4, Value.isRef]
  jvm_step Y.here [hexec, hbytes, fw3_5, getfield.wp_ready (e := e) (s := U) (c := mk.cls) (field := g1) (a := b) (rest := [.int (f 0)]) (cell := cell) (v := .int (f 1)) (f := ({ method := mk, pc := 5, locals := #[.val (.ref b), .val (.ref tr)], stack := [.ref b, .int (f 0)], locked := none } : JFrame)) hs r1 t1 rfl hcell hkn (by rw [u1]; exact hsl 1 (by omega))]
  jvm_step Y.here [hexec, hbytes, fw3_8, Value.isRef]
  jvm_step Y.here [hexec, hbytes, fw3_9, getfield.wp_ready (e := e) (s := U) (c := mk.cls) (field := g2) (a := b) (rest := [.int (f 1), .int (f 0)]) (cell := cell) (v := .int (f 2)) (f := ({ method := mk, pc := 9, locals := #[.val (.ref b), .val (.ref tr)], stack := [.ref b, .int (f 1), .int (f 0)], locked := none } : JFrame)) hs r2 t2 rfl hcell hkn (by rw [u2]; exact hsl 2 (by omega))]
  jvm_step Y.here [hexec, hbytes, fw3_12, Value.isRef]
  exact h
end FW
