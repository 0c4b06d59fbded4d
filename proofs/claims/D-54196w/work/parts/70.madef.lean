/-! what a made class holds -/
set_option maxRecDepth 100000
theorem l_dsc : ∀ q ∈ lsT, (shp q.2.2.2.1 q.2.2.2.2.1 q.2.2.2.2.2).implDesc.toString = dsc q.2.2.2.1 := by decide +kernel
theorem made_f {e : Setting} {vm : Vm} {d c : ClassId} {dk : Class} {q : MethodName × Nat × Nat × Nat × String × String} (hq : q ∈ lsT) (hd : vm.classes[d]? = some dk) (hname : dk.name = q.2.2.2.2.1) (h : Lambda.isMade e vm d (shp q.2.2.2.1 q.2.2.2.2.1 q.2.2.2.2.2) c = true)
    (hO : ∀ o ok, vm.findClass "java/lang/Object" = some o → vm.classes[o]? = some ok → ok.instanceTypes = #[]) :
    ∃ (k tk : Class) (file : ClassFile) (methk : Method) (ck : Code) (toy : ClassId) (t : MethodId),
      vm.classes[c]? = some k ∧ k.name = q.2.2.2.2.1 ++ "$$Lambda" ∧ k.cf = some file ∧ file.constantPool = (lD q).constantPool ∧ k.instanceTypes = (List.replicate q.2.2.2.1 FieldType.int).toArray ∧ k.kind = .ordinary ∧
      vm.method? ⟨c, 1⟩ = some methk ∧ methk.code = some ck ∧ ck.code = ⟨fwb q.2.2.2.1⟩ ∧ ck.maxLocals = 2 ∧ ck.exceptionTable = #[] ∧ methk.locks = false ∧ methk.accessFlags = 0x0001 ∧ methk.sig.returnType = some .int ∧
      vm.findClass q.2.2.2.2.1 = some toy ∧ vm.classes[toy]? = some tk ∧ tk.isInterface = false ∧ ((methodIn toy q.2.2.2.2.2 (dsc q.2.2.2.1) tk.isInterface none).ask e vm).1 = .ok t ∧
      vm.methodReady c (20 + 3 * q.2.2.2.1) t ∧ vm.classReady c (16 + 3 * q.2.2.2.1) toy ∧ ∀ i, i < q.2.2.2.1 → ∃ f : Field, vm.fieldReady c (14 + q.2.2.2.1 + 2 * i) c f ∧ f.isStatic = false ∧ f.slot = i := by
  obtain ⟨x0, hx0⟩ := Option.isSome_iff_exists.mp (l_file q hq)
  have hfile0 : (shp q.2.2.2.1 q.2.2.2.2.1 q.2.2.2.2.2).file q.2.2.2.2.1 = some (lD q) := by
    unfold lD
    rw [hx0]
    rfl
  obtain ⟨x1, hx1⟩ := Option.isSome_iff_exists.mp (l_meth q hq)
  have hF : lF q = x1 := by
    unfold lF
    rw [hx1]
    rfl
  obtain ⟨x2, hx2⟩ := Option.isSome_iff_exists.mp (l_lay q hq)
  have hL : lL q = x2 := by
    unfold lL
    rw [hx2]
    rfl
  obtain ⟨dk', k, ok, tk, file, cf, object, iface, toy, lay, methods, target, found, hd', hk, hfile, hcf, hobj, -, hok, hlay, hms, ht, htk, hg, -, hrec, -, -, -, hitf, hpool, hmeth, hfields, hty, hres, -⟩ := Lambda.isMade_spec h
  cases hd.symm.trans hd'
  rw [hname, hfile0] at hcf
  cases hcf
  have hemp := hO object ok hobj hok
  rw [hemp] at hlay
  rw [show (#[] : Array FieldType).size = 0 from rfl, hx2] at hlay
  cases hlay
  rw [← hL] at hfields hty hres
  rw [hms] at hx1
  obtain ⟨b, hb, hsame⟩ := hmeth 1 (lF q) (by rw [hF]; exact hx1)
  obtain ⟨hn, -, hsig, hfl, x, y, hfx, hby, -, hml, hco, hex⟩ := Lambda.sameMethod_spec hsame
  have fc := l_code q hq
  have ff := l_flags q hq
  simp only [Prod.mk.injEq] at ff
  rw [hfx] at fc
  simp only [Option.map_some, Option.some.injEq, Prod.mk.injEq] at fc
  obtain ⟨c1, c2, c3⟩ := l_cls q hq
  obtain ⟨m1, m2, m3⟩ := l_ref q hq
  have hg2 := hg
  rw [show (shp q.2.2.2.1 q.2.2.2.2.1 q.2.2.2.2.2).implDesc.toString = dsc q.2.2.2.1 from l_dsc q hq] at hg2
  refine ⟨k, tk, file, b, y, toy, target, hk, by rw [hrec.1, hname], hfile, hpool.2.1, by rw [hty.1, hemp, l_ty q hq]; simp, hrec.2.1, by simp [Vm.method?, hk, hb], hby, ?_, by rw [hml]; exact fc.2, hex, ?_, by rw [hfl]; exact ff.1, by rw [hsig]; exact ff.2.2, ht, htk, hitf, hg2,
    ⟨k, hk, hres _ _ (Lambda.resolvedOf_method m1 m2 ht htk m3 hg2)⟩, ⟨k, hk, hres _ _ (Lambda.resolvedOf_class c1 c3 c2 ht)⟩, fun i hi => ?_⟩
  · rw [hco]
    exact ByteArray.ext fc.1
  · simp [Method.locks, Method.isSynchronized, hfl, ff.1, hasFlag, Acc.synchronized]
  · obtain ⟨f1, f2, f3, f4⟩ := l_fld q hq i hi
    obtain ⟨g0, hg0, hp0⟩ := Option.map_eq_some_iff.mp f4
    simp only [Prod.mk.injEq] at hp0
    exact ⟨g0, ⟨k, i, k, hk, hres _ _ (Lambda.resolvedOf_field f1 f2 f3), hk, hfields i _ hg0⟩, hp0.1, hp0.2⟩
