/-! the classes that the lambda sites make -/
set_option maxRecDepth 100000
/-- the class file that is written for the site q -/
def lD (q : MethodName × Nat × Nat × Nat × String × String) : ClassFile := ((shp q.2.2.2.1 q.2.2.2.2.1 q.2.2.2.2.2).file q.2.2.2.2.1).getD { minorVersion := 0, majorVersion := 0, constantPool := #[], accessFlags := 0, thisClass := 0, superClass := 0, interfaces := #[], fields := #[], methods := #[], attributes := #[] }
def lF (q : MethodName × Nat × Nat × Nat × String × String) : Method := ((layoutMethods (lD q)).bind (·[1]?)).getD default
def lL (q : MethodName × Nat × Nat × Nat × String × String) : Array Field × Array FieldType × Array FieldType := (layoutFields (lD q) 0).getD (#[], #[], #[])
/-- the bytes of its method: n captured ints, then the track, then the call -/
def fwb (n : Nat) : Array UInt8 := match n with
  | 1 => #[42, 180, 0, 15, 43, 184, 0, 23, 172]
  | 2 => #[42, 180, 0, 16, 42, 180, 0, 18, 43, 184, 0, 26, 172]
  | _ => #[42, 180, 0, 17, 42, 180, 0, 19, 42, 180, 0, 21, 43, 184, 0, 29, 172]
def dsc (n : Nat) : String := match n with
  | 1 => "(ILLeadRaces$Track;)I"
  | 2 => "(IILLeadRaces$Track;)I"
  | _ => "(IIILLeadRaces$Track;)I"
theorem l_file : ∀ q ∈ lsT, ((shp q.2.2.2.1 q.2.2.2.2.1 q.2.2.2.2.2).file q.2.2.2.2.1).isSome = true := by decide +kernel
theorem l_meth : ∀ q ∈ lsT, ((layoutMethods (lD q)).bind (·[1]?)).isSome = true := by decide +kernel
theorem l_lay : ∀ q ∈ lsT, (layoutFields (lD q) 0).isSome = true := by decide +kernel
theorem l_code : ∀ q ∈ lsT, ((lF q).code.map fun c => (c.code.data, c.maxLocals)) = some (fwb q.2.2.2.1, 2) := by decide +kernel
theorem l_flags : ∀ q ∈ lsT, ((lF q).accessFlags, (lF q).name, (lF q).sig.returnType) = (0x0001, "does", some FieldType.int) := by decide +kernel
theorem l_ref : ∀ q ∈ lsT, (lD q).constantPool[20 + 3 * q.2.2.2.1]? = some (.methodref (16 + 3 * q.2.2.2.1) (19 + 3 * q.2.2.2.1)) ∧ (lD q).constantPool.className? (16 + 3 * q.2.2.2.1) = some q.2.2.2.2.1 ∧ (lD q).constantPool.nameAndType? (19 + 3 * q.2.2.2.1) = some (q.2.2.2.2.2, dsc q.2.2.2.1) := by decide +kernel
theorem l_cls : ∀ q ∈ lsT, (lD q).constantPool[16 + 3 * q.2.2.2.1]? = some (.class_ (15 + 3 * q.2.2.2.1)) ∧ (lD q).constantPool.string? (15 + 3 * q.2.2.2.1) = some q.2.2.2.2.1 ∧ 16 + 3 * q.2.2.2.1 ≠ (lD q).thisClass := by decide +kernel
theorem l_fld : ∀ q ∈ lsT, ∀ i, i < q.2.2.2.1 → (lD q).constantPool[14 + q.2.2.2.1 + 2 * i]? = some (.fieldref 2 (13 + q.2.2.2.1 + 2 * i)) ∧ (lD q).constantPool.nameAndType? (13 + q.2.2.2.1 + 2 * i) = some (Lambda.fieldName i, "I") ∧ (lL q).1.findIdx? (·.name == Lambda.fieldName i) = some i ∧ ((lL q).1[i]?).map (fun f => (f.isStatic, f.slot)) = some (false, i) := by decide +kernel
theorem l_ty : ∀ q ∈ lsT, (lL q).2.1 = (List.replicate q.2.2.2.1 FieldType.int).toArray := by decide +kernel
theorem l_n : ∀ q ∈ lsT, q.2.2.2.1 = 1 ∨ q.2.2.2.1 = 2 ∨ q.2.2.2.1 = 3 := by decide +kernel
theorem l_own : ∀ q ∈ lsT, q.1.cls = q.2.2.2.2.1 := by decide +kernel
