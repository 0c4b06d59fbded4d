/-! rows of J, an instruction each (printed by gen/rows.py) -/
set_option maxRecDepth 100000
section JR
variable {l : Launch} {D : va_G} {cc : ByteArray} {own : String} {nL : Nat} {rm : Room} {Γ : Cxt} {h : PH} {k n pc nx : Nat} {lv lv2 : List (Nat × Value)} {st : List Value}
theorem J_iadd (X : Cx l D cc own nL rm Γ) {x y : Int32} (d : At cc pc (.iadd) 1 nx)  (kk : J Γ h k n nx lv (.int (x + y) :: st)) : J Γ h k n pc lv (.int y :: .int x :: st) := by
  obtain ⟨p, l', e, R, s, m, args, below, meth, co, D', A, Q⟩ := Γ
  obtain ⟨rfl, rfl, rfl, hx, hb, hml, hown, hts, hK, hA, hlk, hE⟩ := X
  obtain ⟨hd, rfl⟩ := d
  intro H locs ls hh hS hl
  exact lv_iadd hx hb hd (kk H locs ls hh hS hl)
theorem J_isub (X : Cx l D cc own nL rm Γ) {x y : Int32} (d : At cc pc (.isub) 1 nx)  (kk : J Γ h k n nx lv (.int (x - y) :: st)) : J Γ h k n pc lv (.int y :: .int x :: st) := by
  obtain ⟨p, l', e, R, s, m, args, below, meth, co, D', A, Q⟩ := Γ
  obtain ⟨rfl, rfl, rfl, hx, hb, hml, hown, hts, hK, hA, hlk, hE⟩ := X
  obtain ⟨hd, rfl⟩ := d
  intro H locs ls hh hS hl
  exact lv_isub hx hb hd (kk H locs ls hh hS hl)
theorem J_imul (X : Cx l D cc own nL rm Γ) {x y : Int32} (d : At cc pc (.imul) 1 nx)  (kk : J Γ h k n nx lv (.int (x * y) :: st)) : J Γ h k n pc lv (.int y :: .int x :: st) := by
  obtain ⟨p, l', e, R, s, m, args, below, meth, co, D', A, Q⟩ := Γ
  obtain ⟨rfl, rfl, rfl, hx, hb, hml, hown, hts, hK, hA, hlk, hE⟩ := X
  obtain ⟨hd, rfl⟩ := d
  intro H locs ls hh hS hl
  exact lv_imul hx hb hd (kk H locs ls hh hS hl)
theorem J_iand (X : Cx l D cc own nL rm Γ) {x y : Int32} (d : At cc pc (.iand) 1 nx)  (kk : J Γ h k n nx lv (.int (x &&& y) :: st)) : J Γ h k n pc lv (.int y :: .int x :: st) := by
  obtain ⟨p, l', e, R, s, m, args, below, meth, co, D', A, Q⟩ := Γ
  obtain ⟨rfl, rfl, rfl, hx, hb, hml, hown, hts, hK, hA, hlk, hE⟩ := X
  obtain ⟨hd, rfl⟩ := d
  intro H locs ls hh hS hl
  exact lv_iand hx hb hd (kk H locs ls hh hS hl)
theorem J_ior (X : Cx l D cc own nL rm Γ) {x y : Int32} (d : At cc pc (.ior) 1 nx)  (kk : J Γ h k n nx lv (.int (x ||| y) :: st)) : J Γ h k n pc lv (.int y :: .int x :: st) := by
  obtain ⟨p, l', e, R, s, m, args, below, meth, co, D', A, Q⟩ := Γ
  obtain ⟨rfl, rfl, rfl, hx, hb, hml, hown, hts, hK, hA, hlk, hE⟩ := X
  obtain ⟨hd, rfl⟩ := d
  intro H locs ls hh hS hl
  exact lv_ior hx hb hd (kk H locs ls hh hS hl)
theorem J_ixor (X : Cx l D cc own nL rm Γ) {x y : Int32} (d : At cc pc (.ixor) 1 nx)  (kk : J Γ h k n nx lv (.int (x ^^^ y) :: st)) : J Γ h k n pc lv (.int y :: .int x :: st) := by
  obtain ⟨p, l', e, R, s, m, args, below, meth, co, D', A, Q⟩ := Γ
  obtain ⟨rfl, rfl, rfl, hx, hb, hml, hown, hts, hK, hA, hlk, hE⟩ := X
  obtain ⟨hd, rfl⟩ := d
  intro H locs ls hh hS hl
  exact lv_ixor hx hb hd (kk H locs ls hh hS hl)
theorem J_ishl (X : Cx l D cc own nL rm Γ) {x y : Int32} (d : At cc pc (.ishl) 1 nx)  (kk : J Γ h k n nx lv (.int (x <<< (y &&& 31)) :: st)) : J Γ h k n pc lv (.int y :: .int x :: st) := by
  obtain ⟨p, l', e, R, s, m, args, below, meth, co, D', A, Q⟩ := Γ
  obtain ⟨rfl, rfl, rfl, hx, hb, hml, hown, hts, hK, hA, hlk, hE⟩ := X
  obtain ⟨hd, rfl⟩ := d
  intro H locs ls hh hS hl
  exact lv_ishl hx hb hd (kk H locs ls hh hS hl)
theorem J_ishr (X : Cx l D cc own nL rm Γ) {x y : Int32} (d : At cc pc (.ishr) 1 nx)  (kk : J Γ h k n nx lv (.int (x >>> (y &&& 31)) :: st)) : J Γ h k n pc lv (.int y :: .int x :: st) := by
  obtain ⟨p, l', e, R, s, m, args, below, meth, co, D', A, Q⟩ := Γ
  obtain ⟨rfl, rfl, rfl, hx, hb, hml, hown, hts, hK, hA, hlk, hE⟩ := X
  obtain ⟨hd, rfl⟩ := d
  intro H locs ls hh hS hl
  exact lv_ishr hx hb hd (kk H locs ls hh hS hl)
theorem J_idiv (X : Cx l D cc own nL rm Γ) {x y : Int32} (d : At cc pc (.idiv) 1 nx) (hne : ¬ y = 0) (kk : J Γ h k n nx lv (.int (x / y) :: st)) : J Γ h k n pc lv (.int y :: .int x :: st) := by
  obtain ⟨p, l', e, R, s, m, args, below, meth, co, D', A, Q⟩ := Γ
  obtain ⟨rfl, rfl, rfl, hx, hb, hml, hown, hts, hK, hA, hlk, hE⟩ := X
  obtain ⟨hd, rfl⟩ := d
  intro H locs ls hh hS hl
  exact lv_idiv hx hb hd hne (kk H locs ls hh hS hl)
theorem J_irem (X : Cx l D cc own nL rm Γ) {x y : Int32} (d : At cc pc (.irem) 1 nx) (hne : ¬ y = 0) (kk : J Γ h k n nx lv (.int (x - x / y * y) :: st)) : J Γ h k n pc lv (.int y :: .int x :: st) := by
  obtain ⟨p, l', e, R, s, m, args, below, meth, co, D', A, Q⟩ := Γ
  obtain ⟨rfl, rfl, rfl, hx, hb, hml, hown, hts, hK, hA, hlk, hE⟩ := X
  obtain ⟨hd, rfl⟩ := d
  intro H locs ls hh hS hl
  exact lv_irem hx hb hd hne (kk H locs ls hh hS hl)
theorem J_ineg (X : Cx l D cc own nL rm Γ) {x : Int32} (d : At cc pc (.ineg) 1 nx)  (kk : J Γ h k n nx lv (.int (-x) :: st)) : J Γ h k n pc lv (.int x :: st) := by
  obtain ⟨p, l', e, R, s, m, args, below, meth, co, D', A, Q⟩ := Γ
  obtain ⟨rfl, rfl, rfl, hx, hb, hml, hown, hts, hK, hA, hlk, hE⟩ := X
  obtain ⟨hd, rfl⟩ := d
  intro H locs ls hh hS hl
  exact lv_ineg hx hb hd (kk H locs ls hh hS hl)
theorem J_ladd (X : Cx l D cc own nL rm Γ) {x y : Int64} (d : At cc pc (.ladd) 1 nx)  (kk : J Γ h k n nx lv (.long (x + y) :: st)) : J Γ h k n pc lv (.long y :: .long x :: st) := by
  obtain ⟨p, l', e, R, s, m, args, below, meth, co, D', A, Q⟩ := Γ
  obtain ⟨rfl, rfl, rfl, hx, hb, hml, hown, hts, hK, hA, hlk, hE⟩ := X
  obtain ⟨hd, rfl⟩ := d
  intro H locs ls hh hS hl
  exact lv_ladd hx hb hd (kk H locs ls hh hS hl)
theorem J_lsub (X : Cx l D cc own nL rm Γ) {x y : Int64} (d : At cc pc (.lsub) 1 nx)  (kk : J Γ h k n nx lv (.long (x - y) :: st)) : J Γ h k n pc lv (.long y :: .long x :: st) := by
  obtain ⟨p, l', e, R, s, m, args, below, meth, co, D', A, Q⟩ := Γ
  obtain ⟨rfl, rfl, rfl, hx, hb, hml, hown, hts, hK, hA, hlk, hE⟩ := X
  obtain ⟨hd, rfl⟩ := d
  intro H locs ls hh hS hl
  exact lv_lsub hx hb hd (kk H locs ls hh hS hl)
theorem J_land (X : Cx l D cc own nL rm Γ) {x y : Int64} (d : At cc pc (.land) 1 nx)  (kk : J Γ h k n nx lv (.long (x &&& y) :: st)) : J Γ h k n pc lv (.long y :: .long x :: st) := by
  obtain ⟨p, l', e, R, s, m, args, below, meth, co, D', A, Q⟩ := Γ
  obtain ⟨rfl, rfl, rfl, hx, hb, hml, hown, hts, hK, hA, hlk, hE⟩ := X
  obtain ⟨hd, rfl⟩ := d
  intro H locs ls hh hS hl
  exact lv_land hx hb hd (kk H locs ls hh hS hl)
theorem J_lor (X : Cx l D cc own nL rm Γ) {x y : Int64} (d : At cc pc (.lor) 1 nx)  (kk : J Γ h k n nx lv (.long (x ||| y) :: st)) : J Γ h k n pc lv (.long y :: .long x :: st) := by
  obtain ⟨p, l', e, R, s, m, args, below, meth, co, D', A, Q⟩ := Γ
  obtain ⟨rfl, rfl, rfl, hx, hb, hml, hown, hts, hK, hA, hlk, hE⟩ := X
  obtain ⟨hd, rfl⟩ := d
  intro H locs ls hh hS hl
  exact lv_lor hx hb hd (kk H locs ls hh hS hl)
theorem J_lxor (X : Cx l D cc own nL rm Γ) {x y : Int64} (d : At cc pc (.lxor) 1 nx)  (kk : J Γ h k n nx lv (.long (x ^^^ y) :: st)) : J Γ h k n pc lv (.long y :: .long x :: st) := by
  obtain ⟨p, l', e, R, s, m, args, below, meth, co, D', A, Q⟩ := Γ
  obtain ⟨rfl, rfl, rfl, hx, hb, hml, hown, hts, hK, hA, hlk, hE⟩ := X
  obtain ⟨hd, rfl⟩ := d
  intro H locs ls hh hS hl
  exact lv_lxor hx hb hd (kk H locs ls hh hS hl)
theorem J_ldiv (X : Cx l D cc own nL rm Γ) {x y : Int64} (d : At cc pc (.ldiv) 1 nx) (hne : ¬ y = 0) (kk : J Γ h k n nx lv (.long (x / y) :: st)) : J Γ h k n pc lv (.long y :: .long x :: st) := by
  obtain ⟨p, l', e, R, s, m, args, below, meth, co, D', A, Q⟩ := Γ
  obtain ⟨rfl, rfl, rfl, hx, hb, hml, hown, hts, hK, hA, hlk, hE⟩ := X
  obtain ⟨hd, rfl⟩ := d
  intro H locs ls hh hS hl
  exact lv_ldiv hx hb hd hne (kk H locs ls hh hS hl)
theorem J_lcmp (X : Cx l D cc own nL rm Γ) {x y : Int64} (d : At cc pc (.lcmp) 1 nx)  (kk : J Γ h k n nx lv (.int (lg_cmp x y) :: st)) : J Γ h k n pc lv (.long y :: .long x :: st) := by
  obtain ⟨p, l', e, R, s, m, args, below, meth, co, D', A, Q⟩ := Γ
  obtain ⟨rfl, rfl, rfl, hx, hb, hml, hown, hts, hK, hA, hlk, hE⟩ := X
  obtain ⟨hd, rfl⟩ := d
  intro H locs ls hh hS hl
  exact W.lcmp hx hb hd (kk H locs ls hh hS hl)
theorem J_i2l (X : Cx l D cc own nL rm Γ) {x : Int32} (d : At cc pc (.i2l) 1 nx)  (kk : J Γ h k n nx lv (.long x.toInt64 :: st)) : J Γ h k n pc lv (.int x :: st) := by
  obtain ⟨p, l', e, R, s, m, args, below, meth, co, D', A, Q⟩ := Γ
  obtain ⟨rfl, rfl, rfl, hx, hb, hml, hown, hts, hK, hA, hlk, hE⟩ := X
  obtain ⟨hd, rfl⟩ := d
  intro H locs ls hh hS hl
  exact lv_i2l hx hb hd rfl (kk H locs ls hh hS hl)
theorem J_l2i (X : Cx l D cc own nL rm Γ) {x : Int64} (d : At cc pc (.l2i) 1 nx)  (kk : J Γ h k n nx lv (.int x.toInt32 :: st)) : J Γ h k n pc lv (.long x :: st) := by
  obtain ⟨p, l', e, R, s, m, args, below, meth, co, D', A, Q⟩ := Γ
  obtain ⟨rfl, rfl, rfl, hx, hb, hml, hown, hts, hK, hA, hlk, hE⟩ := X
  obtain ⟨hd, rfl⟩ := d
  intro H locs ls hh hS hl
  exact lv_l2i hx hb hd rfl (kk H locs ls hh hS hl)
theorem J_i2b (X : Cx l D cc own nL rm Γ) {x : Int32} (d : At cc pc (.i2b) 1 nx)  (kk : J Γ h k n nx lv (.int x.toInt8.toInt32 :: st)) : J Γ h k n pc lv (.int x :: st) := by
  obtain ⟨p, l', e, R, s, m, args, below, meth, co, D', A, Q⟩ := Γ
  obtain ⟨rfl, rfl, rfl, hx, hb, hml, hown, hts, hK, hA, hlk, hE⟩ := X
  obtain ⟨hd, rfl⟩ := d
  intro H locs ls hh hS hl
  exact lv_i2b hx hb hd rfl (kk H locs ls hh hS hl)
theorem J_i2c (X : Cx l D cc own nL rm Γ) {x : Int32} (d : At cc pc (.i2c) 1 nx)  (kk : J Γ h k n nx lv (.int (x.toUInt32 % 65536).toInt32 :: st)) : J Γ h k n pc lv (.int x :: st) := by
  obtain ⟨p, l', e, R, s, m, args, below, meth, co, D', A, Q⟩ := Γ
  obtain ⟨rfl, rfl, rfl, hx, hb, hml, hown, hts, hK, hA, hlk, hE⟩ := X
  obtain ⟨hd, rfl⟩ := d
  intro H locs ls hh hS hl
  exact lv_i2c hx hb hd rfl (kk H locs ls hh hS hl)
theorem J_iushr (X : Cx l D cc own nL rm Γ) {x y : Int32} (d : At cc pc (.iushr) 1 nx)  (kk : J Γ h k n nx lv (.int (x.toUInt32 >>> (y.toUInt32 &&& Int32.toUInt32 31)).toInt32 :: st)) : J Γ h k n pc lv (.int y :: .int x :: st) := by
  obtain ⟨p, l', e, R, s, m, args, below, meth, co, D', A, Q⟩ := Γ
  obtain ⟨rfl, rfl, rfl, hx, hb, hml, hown, hts, hK, hA, hlk, hE⟩ := X
  obtain ⟨hd, rfl⟩ := d
  intro H locs ls hh hS hl
  exact lv_iushr hx hb hd rfl (kk H locs ls hh hS hl)
theorem J_lushr (X : Cx l D cc own nL rm Γ) {x : Int64} {y : Int32} (d : At cc pc (.lushr) 1 nx)  (kk : J Γ h k n nx lv (.long (x.toUInt64 >>> (y.toInt64.toUInt64 &&& Int64.toUInt64 63)).toInt64 :: st)) : J Γ h k n pc lv (.int y :: .long x :: st) := by
  obtain ⟨p, l', e, R, s, m, args, below, meth, co, D', A, Q⟩ := Γ
  obtain ⟨rfl, rfl, rfl, hx, hb, hml, hown, hts, hK, hA, hlk, hE⟩ := X
  obtain ⟨hd, rfl⟩ := d
  intro H locs ls hh hS hl
  exact lv_lushr hx hb hd rfl (kk H locs ls hh hS hl)
theorem J_lshl (X : Cx l D cc own nL rm Γ) {x : Int64} {y : Int32} (d : At cc pc (.lshl) 1 nx)  (kk : J Γ h k n nx lv (.long (x <<< (y.toInt64 &&& 63)) :: st)) : J Γ h k n pc lv (.int y :: .long x :: st) := by
  obtain ⟨p, l', e, R, s, m, args, below, meth, co, D', A, Q⟩ := Γ
  obtain ⟨rfl, rfl, rfl, hx, hb, hml, hown, hts, hK, hA, hlk, hE⟩ := X
  obtain ⟨hd, rfl⟩ := d
  intro H locs ls hh hS hl
  exact lv_lshl hx hb hd rfl (kk H locs ls hh hS hl)
theorem J_lshr (X : Cx l D cc own nL rm Γ) {x : Int64} {y : Int32} (d : At cc pc (.lshr) 1 nx)  (kk : J Γ h k n nx lv (.long (x >>> (y.toInt64 &&& 63)) :: st)) : J Γ h k n pc lv (.int y :: .long x :: st) := by
  obtain ⟨p, l', e, R, s, m, args, below, meth, co, D', A, Q⟩ := Γ
  obtain ⟨rfl, rfl, rfl, hx, hb, hml, hown, hts, hK, hA, hlk, hE⟩ := X
  obtain ⟨hd, rfl⟩ := d
  intro H locs ls hh hS hl
  exact lv_lshr hx hb hd rfl (kk H locs ls hh hS hl)
theorem J_i2f (X : Cx l D cc own nL rm Γ) {x : Int32} (d : At cc pc (.i2f) 1 nx)  (kk : J Γ h k n nx lv (.float (FP.i2f x) :: st)) : J Γ h k n pc lv (.int x :: st) := by
  obtain ⟨p, l', e, R, s, m, args, below, meth, co, D', A, Q⟩ := Γ
  obtain ⟨rfl, rfl, rfl, hx, hb, hml, hown, hts, hK, hA, hlk, hE⟩ := X
  obtain ⟨hd, rfl⟩ := d
  intro H locs ls hh hS hl
  exact lv_i2f hx hb hd (kk H locs ls hh hS hl)
theorem J_fdiv (X : Cx l D cc own nL rm Γ) {x y : UInt32} (d : At cc pc (.fdiv) 1 nx) (hne : vf_n32 (FP.fdiv x y)) (kk : J Γ h k n nx lv (.float (FP.fdiv x y) :: st)) : J Γ h k n pc lv (.float y :: .float x :: st) := by
  obtain ⟨p, l', e, R, s, m, args, below, meth, co, D', A, Q⟩ := Γ
  obtain ⟨rfl, rfl, rfl, hx, hb, hml, hown, hts, hK, hA, hlk, hE⟩ := X
  obtain ⟨hd, rfl⟩ := d
  intro H locs ls hh hS hl
  exact lv_fdiv hx hb hd hne (kk H locs ls hh hS hl)
theorem J_iconst (X : Cx l D cc own nL rm Γ) {c : Int} (v : Int32) (d : At cc pc (.iconst c) 1 nx) (hv : Int32.ofInt c = v) (kk : J Γ h k n nx lv (.int v :: st)) : J Γ h k n pc lv (st) := by
  obtain ⟨p, l', e, R, s, m, args, below, meth, co, D', A, Q⟩ := Γ
  obtain ⟨rfl, rfl, rfl, hx, hb, hml, hown, hts, hK, hA, hlk, hE⟩ := X
  obtain ⟨hd, rfl⟩ := d
  intro H locs ls hh hS hl
  exact lv_iconst hx hb hd hv (kk H locs ls hh hS hl)
theorem J_bipush (X : Cx l D cc own nL rm Γ) {c : Int} (v : Int32) (d : At cc pc (.bipush c) 2 nx) (hv : (Int8.ofInt c).toInt32 = v) (kk : J Γ h k n nx lv (.int v :: st)) : J Γ h k n pc lv (st) := by
  obtain ⟨p, l', e, R, s, m, args, below, meth, co, D', A, Q⟩ := Γ
  obtain ⟨rfl, rfl, rfl, hx, hb, hml, hown, hts, hK, hA, hlk, hE⟩ := X
  obtain ⟨hd, rfl⟩ := d
  intro H locs ls hh hS hl
  exact lv_bipush hx hb hd hv (kk H locs ls hh hS hl)
theorem J_sipush (X : Cx l D cc own nL rm Γ) {c : Int} (v : Int32) (d : At cc pc (.sipush c) 3 nx) (hv : (Int16.ofInt c).toInt32 = v) (kk : J Γ h k n nx lv (.int v :: st)) : J Γ h k n pc lv (st) := by
  obtain ⟨p, l', e, R, s, m, args, below, meth, co, D', A, Q⟩ := Γ
  obtain ⟨rfl, rfl, rfl, hx, hb, hml, hown, hts, hK, hA, hlk, hE⟩ := X
  obtain ⟨hd, rfl⟩ := d
  intro H locs ls hh hS hl
  exact lv_sipush hx hb hd hv (kk H locs ls hh hS hl)
theorem J_lconst (X : Cx l D cc own nL rm Γ) {c : Fin 2} (v : Int64) (d : At cc pc (.lconst c) 1 nx) (hv : Int64.ofNat (c : Nat) = v) (kk : J Γ h k n nx lv (.long v :: st)) : J Γ h k n pc lv (st) := by
  obtain ⟨p, l', e, R, s, m, args, below, meth, co, D', A, Q⟩ := Γ
  obtain ⟨rfl, rfl, rfl, hx, hb, hml, hown, hts, hK, hA, hlk, hE⟩ := X
  obtain ⟨hd, rfl⟩ := d
  intro H locs ls hh hS hl
  exact lv_lconst hx hb hd hv (kk H locs ls hh hS hl)
theorem J_ldc (X : Cx l D cc own nL rm Γ) {ix : Nat} {v : Int32} (d : At cc pc (.ldc ix) 2 nx) (hc : Cond.constant own ix v ∈ lw_all) (kk : J Γ h k n nx lv (.int v :: st)) : J Γ h k n pc lv (st) := by
  obtain ⟨p, l', e, R, s, m, args, below, meth, co, D', A, Q⟩ := Γ
  obtain ⟨rfl, rfl, rfl, hx, hb, hml, hown, hts, hK, hA, hlk, hE⟩ := X
  obtain ⟨hd, rfl⟩ := d
  intro H locs ls hh hS hl
  exact lv_ldc hx hb hown (hts _ hc) hd (kk H locs ls hh hS hl)
theorem J_ldcw (X : Cx l D cc own nL rm Γ) {ix : Nat} {v : Int32} (d : At cc pc (.ldc_w ix) 3 nx) (hc : Cond.constant own ix v ∈ lw_all) (kk : J Γ h k n nx lv (.int v :: st)) : J Γ h k n pc lv (st) := by
  obtain ⟨p, l', e, R, s, m, args, below, meth, co, D', A, Q⟩ := Γ
  obtain ⟨rfl, rfl, rfl, hx, hb, hml, hown, hts, hK, hA, hlk, hE⟩ := X
  obtain ⟨hd, rfl⟩ := d
  intro H locs ls hh hS hl
  exact lv_ldcw hx hb hown (hts _ hc) hd (kk H locs ls hh hS hl)
theorem J_ldc2 (X : Cx l D cc own nL rm Γ) {ix : Nat} {v : Int64} (d : At cc pc (.ldc2_w ix) 3 nx) (hc : Cond.constantLong own ix v ∈ lw_all) (kk : J Γ h k n nx lv (.long v :: st)) : J Γ h k n pc lv (st) := by
  obtain ⟨p, l', e, R, s, m, args, below, meth, co, D', A, Q⟩ := Γ
  obtain ⟨rfl, rfl, rfl, hx, hb, hml, hown, hts, hK, hA, hlk, hE⟩ := X
  obtain ⟨hd, rfl⟩ := d
  intro H locs ls hh hS hl
  exact lv_ldc2 hx hb hown (hts _ hc) hd (kk H locs ls hh hS hl)
theorem J_null (X : Cx l D cc own nL rm Γ)  (d : At cc pc (.aconst_null) 1 nx)  (kk : J Γ h k n nx lv (.null :: st)) : J Γ h k n pc lv (st) := by
  obtain ⟨p, l', e, R, s, m, args, below, meth, co, D', A, Q⟩ := Γ
  obtain ⟨rfl, rfl, rfl, hx, hb, hml, hown, hts, hK, hA, hlk, hE⟩ := X
  obtain ⟨hd, rfl⟩ := d
  intro H locs ls hh hS hl
  exact lv_null hx hb hd (kk H locs ls hh hS hl)
theorem J_iload_n (X : Cx l D cc own nL rm Γ) {kf : Fin 4} {x : Int32} (d : At cc pc (.iload_n kf) 1 nx) (j : Nat) (e0 : lv[j]? = some ((kf : Nat), .int x)) (kk : J Γ h k n nx lv (.int x :: st)) : J Γ h k n pc lv (st) := by
  obtain ⟨p, l', e, R, s, m, args, below, meth, co, D', A, Q⟩ := Γ
  obtain ⟨rfl, rfl, rfl, hx, hb, hml, hown, hts, hK, hA, hlk, hE⟩ := X
  obtain ⟨hd, rfl⟩ := d
  intro H locs ls hh hS hl
  exact lv_iload_n hx hb hd rfl (lv_at hl j e0) (kk H locs ls hh hS hl)
theorem J_iload (X : Cx l D cc own nL rm Γ) {i : Nat} {x : Int32} (d : At cc pc (.iload i) 2 nx) (j : Nat) (e0 : lv[j]? = some (i, .int x)) (kk : J Γ h k n nx lv (.int x :: st)) : J Γ h k n pc lv (st) := by
  obtain ⟨p, l', e, R, s, m, args, below, meth, co, D', A, Q⟩ := Γ
  obtain ⟨rfl, rfl, rfl, hx, hb, hml, hown, hts, hK, hA, hlk, hE⟩ := X
  obtain ⟨hd, rfl⟩ := d
  intro H locs ls hh hS hl
  exact lv_iload hx hb hd (lv_at hl j e0) (kk H locs ls hh hS hl)
theorem J_lload_n (X : Cx l D cc own nL rm Γ) {kf : Fin 4} {x : Int64} (d : At cc pc (.lload_n kf) 1 nx) (j : Nat) (e0 : lv[j]? = some ((kf : Nat), .long x)) (kk : J Γ h k n nx lv (.long x :: st)) : J Γ h k n pc lv (st) := by
  obtain ⟨p, l', e, R, s, m, args, below, meth, co, D', A, Q⟩ := Γ
  obtain ⟨rfl, rfl, rfl, hx, hb, hml, hown, hts, hK, hA, hlk, hE⟩ := X
  obtain ⟨hd, rfl⟩ := d
  intro H locs ls hh hS hl
  exact lv_lload_n hx hb hd rfl (lv_at hl j e0) (kk H locs ls hh hS hl)
theorem J_lload (X : Cx l D cc own nL rm Γ) {i : Nat} {x : Int64} (d : At cc pc (.lload i) 2 nx) (j : Nat) (e0 : lv[j]? = some (i, .long x)) (kk : J Γ h k n nx lv (.long x :: st)) : J Γ h k n pc lv (st) := by
  obtain ⟨p, l', e, R, s, m, args, below, meth, co, D', A, Q⟩ := Γ
  obtain ⟨rfl, rfl, rfl, hx, hb, hml, hown, hts, hK, hA, hlk, hE⟩ := X
  obtain ⟨hd, rfl⟩ := d
  intro H locs ls hh hS hl
  exact lv_lload hx hb hd (lv_at hl j e0) (kk H locs ls hh hS hl)
theorem J_aload_n (X : Cx l D cc own nL rm Γ) {kf : Fin 4} {x : Nat} (d : At cc pc (.aload_n kf) 1 nx) (j : Nat) (e0 : lv[j]? = some ((kf : Nat), .ref x)) (kk : J Γ h k n nx lv (.ref x :: st)) : J Γ h k n pc lv (st) := by
  obtain ⟨p, l', e, R, s, m, args, below, meth, co, D', A, Q⟩ := Γ
  obtain ⟨rfl, rfl, rfl, hx, hb, hml, hown, hts, hK, hA, hlk, hE⟩ := X
  obtain ⟨hd, rfl⟩ := d
  intro H locs ls hh hS hl
  exact lv_aload_n hx hb hd rfl (lv_at hl j e0) (kk H locs ls hh hS hl)
theorem J_aload (X : Cx l D cc own nL rm Γ) {i : Nat} {x : Nat} (d : At cc pc (.aload i) 2 nx) (j : Nat) (e0 : lv[j]? = some (i, .ref x)) (kk : J Γ h k n nx lv (.ref x :: st)) : J Γ h k n pc lv (st) := by
  obtain ⟨p, l', e, R, s, m, args, below, meth, co, D', A, Q⟩ := Γ
  obtain ⟨rfl, rfl, rfl, hx, hb, hml, hown, hts, hK, hA, hlk, hE⟩ := X
  obtain ⟨hd, rfl⟩ := d
  intro H locs ls hh hS hl
  exact lv_aload hx hb hd (lv_at hl j e0) (kk H locs ls hh hS hl)
theorem J_aload_nN (X : Cx l D cc own nL rm Γ) {kf : Fin 4} (d : At cc pc (.aload_n kf) 1 nx) (j : Nat) (e0 : lv[j]? = some ((kf : Nat), .null)) (kk : J Γ h k n nx lv (.null :: st)) : J Γ h k n pc lv (st) := by
  obtain ⟨p, l', e, R, s, m, args, below, meth, co, D', A, Q⟩ := Γ
  obtain ⟨rfl, rfl, rfl, hx, hb, hml, hown, hts, hK, hA, hlk, hE⟩ := X
  obtain ⟨hd, rfl⟩ := d
  intro H locs ls hh hS hl
  exact lv_aload_nN hx hb hd rfl (lv_at hl j e0) (kk H locs ls hh hS hl)
theorem J_aload_nq (X : Cx l D cc own nL rm Γ) {kf : Fin 4} {r : Option Nat} (d : At cc pc (.aload_n kf) 1 nx) (j : Nat) (e0 : lv[j]? = some ((kf : Nat), va_rf r)) (kk : J Γ h k n nx lv (va_rf r :: st)) : J Γ h k n pc lv st := by
  cases r with
  | none => exact J_aload_nN X d j e0 kk
  | some a => exact J_aload_n X d j e0 kk
theorem J_aloadN (X : Cx l D cc own nL rm Γ) {i : Nat} (d : At cc pc (.aload i) 2 nx) (j : Nat) (e0 : lv[j]? = some (i, .null)) (kk : J Γ h k n nx lv (.null :: st)) : J Γ h k n pc lv (st) := by
  obtain ⟨p, l', e, R, s, m, args, below, meth, co, D', A, Q⟩ := Γ
  obtain ⟨rfl, rfl, rfl, hx, hb, hml, hown, hts, hK, hA, hlk, hE⟩ := X
  obtain ⟨hd, rfl⟩ := d
  intro H locs ls hh hS hl
  exact lv_aloadN hx hb hd (lv_at hl j e0) (kk H locs ls hh hS hl)
theorem J_aloadq (X : Cx l D cc own nL rm Γ) {i : Nat} {r : Option Nat} (d : At cc pc (.aload i) 2 nx) (j : Nat) (e0 : lv[j]? = some (i, va_rf r)) (kk : J Γ h k n nx lv (va_rf r :: st)) : J Γ h k n pc lv st := by
  cases r with
  | none => exact J_aloadN X d j e0 kk
  | some a => exact J_aload X d j e0 kk
theorem J_istore_n (X : Cx l D cc own nL rm Γ) {kf : Fin 4} {i : Nat} {x : Int32} (d : At cc pc (.istore_n kf) 1 nx) (e0 : (i, Value.int x) :: lv.filter (fun q => !(q.1 == i) && !(q.1 + 1 == i && q.2.category == 2)) = lv2) (hi : (kf : Nat) = i) (hn : Nat.ble (i + 1) nL = true) (kk : J Γ h k n nx lv2 (st)) : J Γ h k n pc lv (Value.int x :: st) := by
  obtain ⟨p, l', e, R, s, m, args, below, meth, co, D', A, Q⟩ := Γ
  obtain ⟨rfl, rfl, rfl, hx, hb, hml, hown, hts, hK, hA, hlk, hE⟩ := X
  obtain ⟨hd, rfl⟩ := d
  intro H locs ls hh hS hl
  rw [hml] at hl; exact lv_istore_n hx hb hd hi hl (Nat.le_of_ble_eq_true hn) e0 (fun ls hl => kk H locs ls hh hS (by rw [hml]; exact hl))
theorem J_istore (X : Cx l D cc own nL rm Γ) {i : Nat} {x : Int32} (d : At cc pc (.istore i) 2 nx) (e0 : (i, Value.int x) :: lv.filter (fun q => !(q.1 == i) && !(q.1 + 1 == i && q.2.category == 2)) = lv2) (hn : Nat.ble (i + 1) nL = true) (kk : J Γ h k n nx lv2 (st)) : J Γ h k n pc lv (Value.int x :: st) := by
  obtain ⟨p, l', e, R, s, m, args, below, meth, co, D', A, Q⟩ := Γ
  obtain ⟨rfl, rfl, rfl, hx, hb, hml, hown, hts, hK, hA, hlk, hE⟩ := X
  obtain ⟨hd, rfl⟩ := d
  intro H locs ls hh hS hl
  rw [hml] at hl; exact lv_istore hx hb hd hl (Nat.le_of_ble_eq_true hn) e0 (fun ls hl => kk H locs ls hh hS (by rw [hml]; exact hl))
theorem J_lstore_n (X : Cx l D cc own nL rm Γ) {kf : Fin 4} {i : Nat} {x : Int64} (d : At cc pc (.lstore_n kf) 1 nx) (e0 : (i, Value.long x) :: lv.filter (fun q => !(q.1 == i) && (!(q.1 == i + 1) && !(q.1 + 1 == i && q.2.category == 2))) = lv2) (hi : (kf : Nat) = i) (hn : Nat.ble (i + 2) nL = true) (kk : J Γ h k n nx lv2 (st)) : J Γ h k n pc lv (Value.long x :: st) := by
  obtain ⟨p, l', e, R, s, m, args, below, meth, co, D', A, Q⟩ := Γ
  obtain ⟨rfl, rfl, rfl, hx, hb, hml, hown, hts, hK, hA, hlk, hE⟩ := X
  obtain ⟨hd, rfl⟩ := d
  intro H locs ls hh hS hl
  rw [hml] at hl; exact lv_lstore_n hx hb hd hi hl (Nat.le_of_ble_eq_true hn) e0 (fun ls hl => kk H locs ls hh hS (by rw [hml]; exact hl))
theorem J_lstore (X : Cx l D cc own nL rm Γ) {i : Nat} {x : Int64} (d : At cc pc (.lstore i) 2 nx) (e0 : (i, Value.long x) :: lv.filter (fun q => !(q.1 == i) && (!(q.1 == i + 1) && !(q.1 + 1 == i && q.2.category == 2))) = lv2) (hn : Nat.ble (i + 2) nL = true) (kk : J Γ h k n nx lv2 (st)) : J Γ h k n pc lv (Value.long x :: st) := by
  obtain ⟨p, l', e, R, s, m, args, below, meth, co, D', A, Q⟩ := Γ
  obtain ⟨rfl, rfl, rfl, hx, hb, hml, hown, hts, hK, hA, hlk, hE⟩ := X
  obtain ⟨hd, rfl⟩ := d
  intro H locs ls hh hS hl
  rw [hml] at hl; exact lv_lstore hx hb hd hl (Nat.le_of_ble_eq_true hn) e0 (fun ls hl => kk H locs ls hh hS (by rw [hml]; exact hl))
theorem J_astore_n (X : Cx l D cc own nL rm Γ) {kf : Fin 4} {i : Nat} {x : Nat} (d : At cc pc (.astore_n kf) 1 nx) (e0 : (i, Value.ref x) :: lv.filter (fun q => !(q.1 == i) && !(q.1 + 1 == i && q.2.category == 2)) = lv2) (hi : (kf : Nat) = i) (hn : Nat.ble (i + 1) nL = true) (kk : J Γ h k n nx lv2 (st)) : J Γ h k n pc lv (Value.ref x :: st) := by
  obtain ⟨p, l', e, R, s, m, args, below, meth, co, D', A, Q⟩ := Γ
  obtain ⟨rfl, rfl, rfl, hx, hb, hml, hown, hts, hK, hA, hlk, hE⟩ := X
  obtain ⟨hd, rfl⟩ := d
  intro H locs ls hh hS hl
  rw [hml] at hl; exact lv_astore_n hx hb hd hi hl (Nat.le_of_ble_eq_true hn) e0 (fun ls hl => kk H locs ls hh hS (by rw [hml]; exact hl))
theorem J_astore (X : Cx l D cc own nL rm Γ) {i : Nat} {x : Nat} (d : At cc pc (.astore i) 2 nx) (e0 : (i, Value.ref x) :: lv.filter (fun q => !(q.1 == i) && !(q.1 + 1 == i && q.2.category == 2)) = lv2) (hn : Nat.ble (i + 1) nL = true) (kk : J Γ h k n nx lv2 (st)) : J Γ h k n pc lv (Value.ref x :: st) := by
  obtain ⟨p, l', e, R, s, m, args, below, meth, co, D', A, Q⟩ := Γ
  obtain ⟨rfl, rfl, rfl, hx, hb, hml, hown, hts, hK, hA, hlk, hE⟩ := X
  obtain ⟨hd, rfl⟩ := d
  intro H locs ls hh hS hl
  rw [hml] at hl; exact lv_astore hx hb hd hl (Nat.le_of_ble_eq_true hn) e0 (fun ls hl => kk H locs ls hh hS (by rw [hml]; exact hl))
theorem J_astore_nN (X : Cx l D cc own nL rm Γ) {kf : Fin 4} {i : Nat} (d : At cc pc (.astore_n kf) 1 nx) (e0 : (i, Value.null) :: lv.filter (fun q => !(q.1 == i) && !(q.1 + 1 == i && q.2.category == 2)) = lv2) (hi : (kf : Nat) = i) (hn : Nat.ble (i + 1) nL = true) (kk : J Γ h k n nx lv2 (st)) : J Γ h k n pc lv (.null :: st) := by
  obtain ⟨p, l', e, R, s, m, args, below, meth, co, D', A, Q⟩ := Γ
  obtain ⟨rfl, rfl, rfl, hx, hb, hml, hown, hts, hK, hA, hlk, hE⟩ := X
  obtain ⟨hd, rfl⟩ := d
  intro H locs ls hh hS hl
  rw [hml] at hl; exact lv_astore_nN hx hb hd hi hl (Nat.le_of_ble_eq_true hn) e0 (fun ls hl => kk H locs ls hh hS (by rw [hml]; exact hl))
theorem J_astoreN (X : Cx l D cc own nL rm Γ) {i : Nat} (d : At cc pc (.astore i) 2 nx) (e0 : (i, Value.null) :: lv.filter (fun q => !(q.1 == i) && !(q.1 + 1 == i && q.2.category == 2)) = lv2) (hn : Nat.ble (i + 1) nL = true) (kk : J Γ h k n nx lv2 (st)) : J Γ h k n pc lv (.null :: st) := by
  obtain ⟨p, l', e, R, s, m, args, below, meth, co, D', A, Q⟩ := Γ
  obtain ⟨rfl, rfl, rfl, hx, hb, hml, hown, hts, hK, hA, hlk, hE⟩ := X
  obtain ⟨hd, rfl⟩ := d
  intro H locs ls hh hS hl
  rw [hml] at hl; exact lv_astoreN hx hb hd hl (Nat.le_of_ble_eq_true hn) e0 (fun ls hl => kk H locs ls hh hS (by rw [hml]; exact hl))
theorem J_iinc (X : Cx l D cc own nL rm Γ) {i : Nat} {c : Int} {x : Int32} (d : At cc pc (.iinc i c) 3 nx) (j : Nat) (v : Int32) (ej : lv[j]? = some (i, .int x)) (hv : x + Int32.ofInt c = v) (e0 : (i, Value.int v) :: lv.filter (fun q => !(q.1 == i) && !(q.1 + 1 == i && q.2.category == 2)) = lv2) (hn : Nat.ble (i + 1) nL = true) (kk : J Γ h k n nx lv2 (st)) : J Γ h k n pc lv (st) := by
  obtain ⟨p, l', e, R, s, m, args, below, meth, co, D', A, Q⟩ := Γ
  obtain ⟨rfl, rfl, rfl, hx, hb, hml, hown, hts, hK, hA, hlk, hE⟩ := X
  obtain ⟨hd, rfl⟩ := d
  intro H locs ls hh hS hl
  rw [hml] at hl; exact lv_iinc hx hb hd hl ej hv (Nat.le_of_ble_eq_true hn) e0 (fun ls hl => kk H locs ls hh hS (by rw [hml]; exact hl))
theorem J_astore_nq (X : Cx l D cc own nL rm Γ) {kf : Fin 4} {i : Nat} {x : Option Nat} (d : At cc pc (.astore_n kf) 1 nx) (e0 : (i, va_rf x) :: lv.filter (fun q => !(q.1 == i) && !(q.1 + 1 == i && q.2.category == 2)) = lv2) (hi : (kf : Nat) = i) (hn : Nat.ble (i + 1) nL = true) (kk : J Γ h k n nx lv2 st) : J Γ h k n pc lv (va_rf x :: st) := by
  cases x with
  | none => exact J_astore_nN X d e0 hi hn kk
  | some a => exact J_astore_n X d e0 hi hn kk
theorem J_astoreq (X : Cx l D cc own nL rm Γ) {i : Nat} {x : Option Nat} (d : At cc pc (.astore i) 2 nx) (e0 : (i, va_rf x) :: lv.filter (fun q => !(q.1 == i) && !(q.1 + 1 == i && q.2.category == 2)) = lv2) (hn : Nat.ble (i + 1) nL = true) (kk : J Γ h k n nx lv2 st) : J Γ h k n pc lv (va_rf x :: st) := by
  cases x with
  | none => exact J_astoreN X d e0 hn kk
  | some a => exact J_astore X d e0 hn kk
theorem J_dup (X : Cx l D cc own nL rm Γ) {v : Value} (d : At cc pc (.dup) 1 nx) (hc : v.category = 1 ) (kk : J Γ h k n nx lv (v :: v :: st)) : J Γ h k n pc lv (v :: st) := by
  obtain ⟨p, l', e, R, s, m, args, below, meth, co, D', A, Q⟩ := Γ
  obtain ⟨rfl, rfl, rfl, hx, hb, hml, hown, hts, hK, hA, hlk, hE⟩ := X
  obtain ⟨hd, rfl⟩ := d
  intro H locs ls hh hS hl
  exact lv_dup hx hb hd hc (kk H locs ls hh hS hl)
theorem J_pop (X : Cx l D cc own nL rm Γ) {v : Value} (d : At cc pc (.pop) 1 nx) (hc : v.category = 1 ) (kk : J Γ h k n nx lv (st)) : J Γ h k n pc lv (v :: st) := by
  obtain ⟨p, l', e, R, s, m, args, below, meth, co, D', A, Q⟩ := Γ
  obtain ⟨rfl, rfl, rfl, hx, hb, hml, hown, hts, hK, hA, hlk, hE⟩ := X
  obtain ⟨hd, rfl⟩ := d
  intro H locs ls hh hS hl
  exact lv_pop hx hb hd hc (kk H locs ls hh hS hl)
theorem J_dup_x1 (X : Cx l D cc own nL rm Γ) {v w : Value} (d : At cc pc (.dup_x1) 1 nx) (hc : v.category = 1 ) (hc2 : w.category = 1 ) (kk : J Γ h k n nx lv (v :: w :: v :: st)) : J Γ h k n pc lv (v :: w :: st) := by
  obtain ⟨p, l', e, R, s, m, args, below, meth, co, D', A, Q⟩ := Γ
  obtain ⟨rfl, rfl, rfl, hx, hb, hml, hown, hts, hK, hA, hlk, hE⟩ := X
  obtain ⟨hd, rfl⟩ := d
  intro H locs ls hh hS hl
  exact lv_dup_x1 hx hb hd hc hc2 (kk H locs ls hh hS hl)
theorem J_dup2 (X : Cx l D cc own nL rm Γ) {v w : Value} (d : At cc pc (.dup2) 1 nx) (hc : v.category = 1 ) (hc2 : w.category = 1 ) (kk : J Γ h k n nx lv (v :: w :: v :: w :: st)) : J Γ h k n pc lv (v :: w :: st) := by
  obtain ⟨p, l', e, R, s, m, args, below, meth, co, D', A, Q⟩ := Γ
  obtain ⟨rfl, rfl, rfl, hx, hb, hml, hown, hts, hK, hA, hlk, hE⟩ := X
  obtain ⟨hd, rfl⟩ := d
  intro H locs ls hh hS hl
  exact lv_dup2_11 hx hb hd hc hc2 (kk H locs ls hh hS hl)
theorem J_dup2L (X : Cx l D cc own nL rm Γ) {v : Value} (d : At cc pc (.dup2) 1 nx) (hc : v.category = 2 ) (kk : J Γ h k n nx lv (v :: v :: st)) : J Γ h k n pc lv (v :: st) := by
  obtain ⟨p, l', e, R, s, m, args, below, meth, co, D', A, Q⟩ := Γ
  obtain ⟨rfl, rfl, rfl, hx, hb, hml, hown, hts, hK, hA, hlk, hE⟩ := X
  obtain ⟨hd, rfl⟩ := d
  intro H locs ls hh hS hl
  exact lv_dup2_2 hx hb hd hc (kk H locs ls hh hS hl)
theorem J_goto (X : Cx l D cc own nL rm Γ) {off : Int} {tgt : Nat} (d : At cc pc (.goto off) 3 nx) (ht : (pc : Int) + off = (tgt : Int)) (kk : J Γ h k n tgt lv st) : J Γ h k n pc lv st := by
  obtain ⟨p, l', e, R, s, m, args, below, meth, co, D', A, Q⟩ := Γ
  obtain ⟨rfl, rfl, rfl, hx, hb, hml, hown, hts, hK, hA, hlk, hE⟩ := X
  obtain ⟨hd, rfl⟩ := d
  intro H locs ls hh hS hl
  exact lv_goto hx hb hd ht (kk H locs ls hh hS hl)
theorem J_if_eq (X : Cx l D cc own nL rm Γ) {x : Int32} {off : Int} (tgt : Nat) (d : At cc pc (.ifCond .eq off) 3 nx) (ht : (pc : Int) + off = (tgt : Int)) (kt : x = 0 → J Γ h k n tgt lv st) (kf : ¬ x = 0 → J Γ h k n nx lv st) : J Γ h k n pc lv (.int x :: st) := by
  obtain ⟨p, l', e, R, s, m, args, below, meth, co, D', A, Q⟩ := Γ
  obtain ⟨rfl, rfl, rfl, hx, hb, hml, hown, hts, hK, hA, hlk, hE⟩ := X
  obtain ⟨hd, rfl⟩ := d
  intro H locs ls hh hS hl
  exact lv_if_eq hx hb hd ht (fun c => kt c H locs ls hh hS hl) (fun c => kf c H locs ls hh hS hl)
theorem J_icmp_eq (X : Cx l D cc own nL rm Γ) {x y : Int32} {off : Int} (tgt : Nat) (d : At cc pc (.if_icmp .eq off) 3 nx) (ht : (pc : Int) + off = (tgt : Int)) (kt : x = y → J Γ h k n tgt lv st) (kf : ¬ x = y → J Γ h k n nx lv st) : J Γ h k n pc lv (.int y :: .int x :: st) := by
  obtain ⟨p, l', e, R, s, m, args, below, meth, co, D', A, Q⟩ := Γ
  obtain ⟨rfl, rfl, rfl, hx, hb, hml, hown, hts, hK, hA, hlk, hE⟩ := X
  obtain ⟨hd, rfl⟩ := d
  intro H locs ls hh hS hl
  exact lv_icmp_eq hx hb hd ht (fun c => kt c H locs ls hh hS hl) (fun c => kf c H locs ls hh hS hl)
theorem J_if_ne (X : Cx l D cc own nL rm Γ) {x : Int32} {off : Int} (tgt : Nat) (d : At cc pc (.ifCond .ne off) 3 nx) (ht : (pc : Int) + off = (tgt : Int)) (kt : ¬ x = 0 → J Γ h k n tgt lv st) (kf : x = 0 → J Γ h k n nx lv st) : J Γ h k n pc lv (.int x :: st) := by
  obtain ⟨p, l', e, R, s, m, args, below, meth, co, D', A, Q⟩ := Γ
  obtain ⟨rfl, rfl, rfl, hx, hb, hml, hown, hts, hK, hA, hlk, hE⟩ := X
  obtain ⟨hd, rfl⟩ := d
  intro H locs ls hh hS hl
  exact lv_if_ne hx hb hd ht (fun c => kt c H locs ls hh hS hl) (fun c => kf c H locs ls hh hS hl)
theorem J_icmp_ne (X : Cx l D cc own nL rm Γ) {x y : Int32} {off : Int} (tgt : Nat) (d : At cc pc (.if_icmp .ne off) 3 nx) (ht : (pc : Int) + off = (tgt : Int)) (kt : ¬ x = y → J Γ h k n tgt lv st) (kf : x = y → J Γ h k n nx lv st) : J Γ h k n pc lv (.int y :: .int x :: st) := by
  obtain ⟨p, l', e, R, s, m, args, below, meth, co, D', A, Q⟩ := Γ
  obtain ⟨rfl, rfl, rfl, hx, hb, hml, hown, hts, hK, hA, hlk, hE⟩ := X
  obtain ⟨hd, rfl⟩ := d
  intro H locs ls hh hS hl
  exact lv_icmp_ne hx hb hd ht (fun c => kt c H locs ls hh hS hl) (fun c => kf c H locs ls hh hS hl)
theorem J_if_lt (X : Cx l D cc own nL rm Γ) {x : Int32} {off : Int} (tgt : Nat) (d : At cc pc (.ifCond .lt off) 3 nx) (ht : (pc : Int) + off = (tgt : Int)) (kt : x < 0 → J Γ h k n tgt lv st) (kf : ¬ x < 0 → J Γ h k n nx lv st) : J Γ h k n pc lv (.int x :: st) := by
  obtain ⟨p, l', e, R, s, m, args, below, meth, co, D', A, Q⟩ := Γ
  obtain ⟨rfl, rfl, rfl, hx, hb, hml, hown, hts, hK, hA, hlk, hE⟩ := X
  obtain ⟨hd, rfl⟩ := d
  intro H locs ls hh hS hl
  exact lv_if_lt hx hb hd ht (fun c => kt c H locs ls hh hS hl) (fun c => kf c H locs ls hh hS hl)
theorem J_icmp_lt (X : Cx l D cc own nL rm Γ) {x y : Int32} {off : Int} (tgt : Nat) (d : At cc pc (.if_icmp .lt off) 3 nx) (ht : (pc : Int) + off = (tgt : Int)) (kt : x < y → J Γ h k n tgt lv st) (kf : ¬ x < y → J Γ h k n nx lv st) : J Γ h k n pc lv (.int y :: .int x :: st) := by
  obtain ⟨p, l', e, R, s, m, args, below, meth, co, D', A, Q⟩ := Γ
  obtain ⟨rfl, rfl, rfl, hx, hb, hml, hown, hts, hK, hA, hlk, hE⟩ := X
  obtain ⟨hd, rfl⟩ := d
  intro H locs ls hh hS hl
  exact lv_icmp_lt hx hb hd ht (fun c => kt c H locs ls hh hS hl) (fun c => kf c H locs ls hh hS hl)
theorem J_if_ge (X : Cx l D cc own nL rm Γ) {x : Int32} {off : Int} (tgt : Nat) (d : At cc pc (.ifCond .ge off) 3 nx) (ht : (pc : Int) + off = (tgt : Int)) (kt : 0 ≤ x → J Γ h k n tgt lv st) (kf : ¬ 0 ≤ x → J Γ h k n nx lv st) : J Γ h k n pc lv (.int x :: st) := by
  obtain ⟨p, l', e, R, s, m, args, below, meth, co, D', A, Q⟩ := Γ
  obtain ⟨rfl, rfl, rfl, hx, hb, hml, hown, hts, hK, hA, hlk, hE⟩ := X
  obtain ⟨hd, rfl⟩ := d
  intro H locs ls hh hS hl
  exact lv_if_ge hx hb hd ht (fun c => kt c H locs ls hh hS hl) (fun c => kf c H locs ls hh hS hl)
theorem J_icmp_ge (X : Cx l D cc own nL rm Γ) {x y : Int32} {off : Int} (tgt : Nat) (d : At cc pc (.if_icmp .ge off) 3 nx) (ht : (pc : Int) + off = (tgt : Int)) (kt : y ≤ x → J Γ h k n tgt lv st) (kf : ¬ y ≤ x → J Γ h k n nx lv st) : J Γ h k n pc lv (.int y :: .int x :: st) := by
  obtain ⟨p, l', e, R, s, m, args, below, meth, co, D', A, Q⟩ := Γ
  obtain ⟨rfl, rfl, rfl, hx, hb, hml, hown, hts, hK, hA, hlk, hE⟩ := X
  obtain ⟨hd, rfl⟩ := d
  intro H locs ls hh hS hl
  exact lv_icmp_ge hx hb hd ht (fun c => kt c H locs ls hh hS hl) (fun c => kf c H locs ls hh hS hl)
theorem J_if_gt (X : Cx l D cc own nL rm Γ) {x : Int32} {off : Int} (tgt : Nat) (d : At cc pc (.ifCond .gt off) 3 nx) (ht : (pc : Int) + off = (tgt : Int)) (kt : 0 < x → J Γ h k n tgt lv st) (kf : ¬ 0 < x → J Γ h k n nx lv st) : J Γ h k n pc lv (.int x :: st) := by
  obtain ⟨p, l', e, R, s, m, args, below, meth, co, D', A, Q⟩ := Γ
  obtain ⟨rfl, rfl, rfl, hx, hb, hml, hown, hts, hK, hA, hlk, hE⟩ := X
  obtain ⟨hd, rfl⟩ := d
  intro H locs ls hh hS hl
  exact lv_if_gt hx hb hd ht (fun c => kt c H locs ls hh hS hl) (fun c => kf c H locs ls hh hS hl)
theorem J_icmp_gt (X : Cx l D cc own nL rm Γ) {x y : Int32} {off : Int} (tgt : Nat) (d : At cc pc (.if_icmp .gt off) 3 nx) (ht : (pc : Int) + off = (tgt : Int)) (kt : y < x → J Γ h k n tgt lv st) (kf : ¬ y < x → J Γ h k n nx lv st) : J Γ h k n pc lv (.int y :: .int x :: st) := by
  obtain ⟨p, l', e, R, s, m, args, below, meth, co, D', A, Q⟩ := Γ
  obtain ⟨rfl, rfl, rfl, hx, hb, hml, hown, hts, hK, hA, hlk, hE⟩ := X
  obtain ⟨hd, rfl⟩ := d
  intro H locs ls hh hS hl
  exact lv_icmp_gt hx hb hd ht (fun c => kt c H locs ls hh hS hl) (fun c => kf c H locs ls hh hS hl)
theorem J_if_le (X : Cx l D cc own nL rm Γ) {x : Int32} {off : Int} (tgt : Nat) (d : At cc pc (.ifCond .le off) 3 nx) (ht : (pc : Int) + off = (tgt : Int)) (kt : x ≤ 0 → J Γ h k n tgt lv st) (kf : ¬ x ≤ 0 → J Γ h k n nx lv st) : J Γ h k n pc lv (.int x :: st) := by
  obtain ⟨p, l', e, R, s, m, args, below, meth, co, D', A, Q⟩ := Γ
  obtain ⟨rfl, rfl, rfl, hx, hb, hml, hown, hts, hK, hA, hlk, hE⟩ := X
  obtain ⟨hd, rfl⟩ := d
  intro H locs ls hh hS hl
  exact lv_if_le hx hb hd ht (fun c => kt c H locs ls hh hS hl) (fun c => kf c H locs ls hh hS hl)
theorem J_icmp_le (X : Cx l D cc own nL rm Γ) {x y : Int32} {off : Int} (tgt : Nat) (d : At cc pc (.if_icmp .le off) 3 nx) (ht : (pc : Int) + off = (tgt : Int)) (kt : x ≤ y → J Γ h k n tgt lv st) (kf : ¬ x ≤ y → J Γ h k n nx lv st) : J Γ h k n pc lv (.int y :: .int x :: st) := by
  obtain ⟨p, l', e, R, s, m, args, below, meth, co, D', A, Q⟩ := Γ
  obtain ⟨rfl, rfl, rfl, hx, hb, hml, hown, hts, hK, hA, hlk, hE⟩ := X
  obtain ⟨hd, rfl⟩ := d
  intro H locs ls hh hS hl
  exact lv_icmp_le hx hb hd ht (fun c => kt c H locs ls hh hS hl) (fun c => kf c H locs ls hh hS hl)
theorem J_ifnull (X : Cx l D cc own nL rm Γ) (r : Option Nat) {off : Int} (tgt : Nat) (d : At cc pc (.ifnull off) 3 nx) (ht : (pc : Int) + off = (tgt : Int)) (kt : r = none → J Γ h k n tgt lv st) (kf : ∀ a, r = some a → J Γ h k n nx lv st) : J Γ h k n pc lv (va_rf r :: st) := by
  obtain ⟨p, l', e, R, s, m, args, below, meth, co, D', A, Q⟩ := Γ
  obtain ⟨rfl, rfl, rfl, hx, hb, hml, hown, hts, hK, hA, hlk, hE⟩ := X
  obtain ⟨hd, rfl⟩ := d
  intro H locs ls hh hS hl
  cases r with
  | none => exact lv_ifnullN hx hb hd ht (kt rfl H locs ls hh hS hl)
  | some a => exact lv_ifnull hx hb hd (kf a rfl H locs ls hh hS hl)
theorem J_ifnonnull (X : Cx l D cc own nL rm Γ) (r : Option Nat) {off : Int} (tgt : Nat) (d : At cc pc (.ifnonnull off) 3 nx) (ht : (pc : Int) + off = (tgt : Int)) (kt : ∀ a, r = some a → J Γ h k n tgt lv st) (kf : r = none → J Γ h k n nx lv st) : J Γ h k n pc lv (va_rf r :: st) := by
  obtain ⟨p, l', e, R, s, m, args, below, meth, co, D', A, Q⟩ := Γ
  obtain ⟨rfl, rfl, rfl, hx, hb, hml, hown, hts, hK, hA, hlk, hE⟩ := X
  obtain ⟨hd, rfl⟩ := d
  intro H locs ls hh hS hl
  cases r with
  | none => exact lv_ifnonnullN hx hb hd (kf rfl H locs ls hh hS hl)
  | some a => exact lv_ifnonnull hx hb hd ht (kt a rfl H locs ls hh hS hl)
theorem J_acmp_eq (X : Cx l D cc own nL rm Γ) (rx ry : Option Nat) {off : Int} (tgt : Nat) (d : At cc pc (.if_acmp .eq off) 3 nx) (ht : (pc : Int) + off = (tgt : Int)) (kt : rx = ry → J Γ h k n tgt lv st) (kf : ¬ rx = ry → J Γ h k n nx lv st) : J Γ h k n pc lv (va_rf ry :: va_rf rx :: st) := by
  obtain ⟨p, l', e, R, s, m, args, below, meth, co, D', A, Q⟩ := Γ
  obtain ⟨rfl, rfl, rfl, hx, hb, hml, hown, hts, hK, hA, hlk, hE⟩ := X
  obtain ⟨hd, rfl⟩ := d
  intro H locs ls hh hS hl
  exact lv_acmp_eq hx hb hd ht (fun c => kt c H locs ls hh hS hl) (fun c => kf c H locs ls hh hS hl)
theorem J_acmp_ne (X : Cx l D cc own nL rm Γ) (rx ry : Option Nat) {off : Int} (tgt : Nat) (d : At cc pc (.if_acmp .ne off) 3 nx) (ht : (pc : Int) + off = (tgt : Int)) (kt : ¬ rx = ry → J Γ h k n tgt lv st) (kf : rx = ry → J Γ h k n nx lv st) : J Γ h k n pc lv (va_rf ry :: va_rf rx :: st) := by
  obtain ⟨p, l', e, R, s, m, args, below, meth, co, D', A, Q⟩ := Γ
  obtain ⟨rfl, rfl, rfl, hx, hb, hml, hown, hts, hK, hA, hlk, hE⟩ := X
  obtain ⟨hd, rfl⟩ := d
  intro H locs ls hh hS hl
  exact lv_acmp_ne hx hb hd ht (fun c => kt c H locs ls hh hS hl) (fun c => kf c H locs ls hh hS hl)
theorem J_tableOut (X : Cx l D cc own nL rm Γ) {dflt lo hi : Int} {offs : Array Int} {len : Nat} {x : Int32} (tgt : Nat) (d : At cc pc (.tableswitch dflt lo hi offs) len nx) (hc : x.toInt < lo ∨ hi < x.toInt) (ht : (pc : Int) + dflt = (tgt : Int)) (kk : J Γ h k n tgt lv st) : J Γ h k n pc lv (.int x :: st) := by
  obtain ⟨p, l', e, R, s, m, args, below, meth, co, D', A, Q⟩ := Γ
  obtain ⟨rfl, rfl, rfl, hx, hb, hml, hown, hts, hK, hA, hlk, hE⟩ := X
  obtain ⟨hd, rfl⟩ := d
  intro H locs ls hh hS hl
  exact lv_tableOut hx hb hd hc ht (kk H locs ls hh hS hl)
theorem J_tableIn (X : Cx l D cc own nL rm Γ) {dflt lo hi : Int} {offs : Array Int} {len : Nat} {x : Int32} {off : Int} (tgt : Nat) (d : At cc pc (.tableswitch dflt lo hi offs) len nx) (h1 : ¬ x.toInt < lo) (h2 : ¬ hi < x.toInt) (ho : offs[(x.toInt - lo).toNat]? = some off) (ht : (pc : Int) + off = (tgt : Int)) (kk : J Γ h k n tgt lv st) : J Γ h k n pc lv (.int x :: st) := by
  obtain ⟨p, l', e, R, s, m, args, below, meth, co, D', A, Q⟩ := Γ
  obtain ⟨rfl, rfl, rfl, hx, hb, hml, hown, hts, hK, hA, hlk, hE⟩ := X
  obtain ⟨hd, rfl⟩ := d
  intro H locs ls hh hS hl
  exact lv_tableIn hx hb hd h1 h2 ho ht (kk H locs ls hh hS hl)
theorem J_lookup (X : Cx l D cc own nL rm Γ) {dflt : Int} {ps : Array (Int × Int)} {len : Nat} {x : Int32} {off : Int} (tgt : Nat) (d : At cc pc (.lookupswitch dflt ps) len nx) (hp : (ps.toList.zip (ps.toList.drop 1)).all (fun (a, next) => a.1 < next.1) = true) (ho : Op.lookupswitch.offset ps.toList dflt x.toInt = off) (ht : (pc : Int) + off = (tgt : Int)) (kk : J Γ h k n tgt lv st) : J Γ h k n pc lv (.int x :: st) := by
  obtain ⟨p, l', e, R, s, m, args, below, meth, co, D', A, Q⟩ := Γ
  obtain ⟨rfl, rfl, rfl, hx, hb, hml, hown, hts, hK, hA, hlk, hE⟩ := X
  obtain ⟨hd, rfl⟩ := d
  intro H locs ls hh hS hl
  exact lv_lookup hx hb hd hp ho ht (kk H locs ls hh hS hl)
theorem J_sub (ks : List Nat) (e0 : lv_pick lv ks = lv2) (kk : J Γ h k n pc lv2 st) : J Γ h k n pc lv st := by
  obtain ⟨p, l', e, R, s, m, args, below, meth, co, D', A, Q⟩ := Γ
  intro H locs ls hh hS hl
  exact kk H locs ls hh hS (lv_sub hl ks e0)
theorem J_widen {k2 n2 : Nat} (h1 : k ≤ k2) (h2 : n ≤ n2) (kk : J Γ h k2 n2 pc lv st) : J Γ h k n pc lv st := by
  obtain ⟨p, l', e, R, s, m, args, below, meth, co, D', A, Q⟩ := Γ
  intro H locs ls hh hS hl
  exact W.widen h1 h2 (kk H locs ls hh hS hl)
theorem J_topi {x y : Int32} (e0 : x = y) (kk : J Γ h k n pc lv (.int y :: st)) : J Γ h k n pc lv (.int x :: st) := e0 ▸ kk
theorem J_topv {x y : Value} (e0 : x = y) (kk : J Γ h k n pc lv (y :: st)) : J Γ h k n pc lv (x :: st) := e0 ▸ kk
theorem J_heap {h2 : PH} (e0 : h = h2) (kk : J Γ h2 k n pc lv st) : J Γ h k n pc lv st := e0 ▸ kk
theorem J_iaddN (X : Cx l D cc own nL rm Γ) {a b : Nat} (d : At cc pc .iadd 1 nx) (kk : J Γ h k n nx lv (.int (nI (a + b)) :: st)) : J Γ h k n pc lv (.int (nI b) :: .int (nI a) :: st) := J_iadd X d (by rw [nI_add]; exact kk)
theorem J_imulN (X : Cx l D cc own nL rm Γ) {a b : Nat} (d : At cc pc .imul 1 nx) (kk : J Γ h k n nx lv (.int (nI (a * b)) :: st)) : J Γ h k n pc lv (.int (nI b) :: .int (nI a) :: st) := J_imul X d (by rw [pk_mul]; exact kk)
theorem J_isubN (X : Cx l D cc own nL rm Γ) {a b : Nat} (d : At cc pc .isub 1 nx) (hab : b ≤ a) (kk : J Γ h k n nx lv (.int (nI (a - b)) :: st)) : J Γ h k n pc lv (.int (nI b) :: .int (nI a) :: st) := J_isub X d (by rw [pk_sub hab]; exact kk)
theorem J_idivN (X : Cx l D cc own nL rm Γ) {a b : Nat} (d : At cc pc .idiv 1 nx) (ha : a < 2 ^ 31) (h0 : 0 < b) (hb : b < 2 ^ 31) (kk : J Γ h k n nx lv (.int (nI (a / b)) :: st)) : J Γ h k n pc lv (.int (nI b) :: .int (nI a) :: st) := J_idiv X d (nI_ne0 h0 hb) (by rw [pk_div ha h0 hb]; exact kk)
theorem J_iret (X : Cx l D cc own nL rm Γ) {Post : Option Value → PH → Prop} {x : Int32} (r : Rt (some .int) Post Γ) (d : At cc pc (.ireturn) 1 nx) (hk : k ≤ rm.cells) (hn : n ≤ rm.slots)  (hp : Post (some (.int x)) h) : J Γ h k n pc lv ([.int x]) := by
  obtain ⟨p, l', e, R, s, m, args, below, meth, co, D', A, Q⟩ := Γ
  obtain ⟨rfl, rfl, rfl, hx, hb, hml, hown, hts, hK, hA, hlk, hE⟩ := X
  obtain ⟨hd, rfl⟩ := d
  intro H locs ls hh hS hl
  exact W.widen hk hn (r.2 H locs _ (W.iret hx hb r.1 (fun t ht hW => ⟨_, h, rfl, hp, by rw [ht]; exact hh, hS.F ht⟩) hS.2.2 hd hlk))
theorem J_zret (X : Cx l D cc own nL rm Γ) {Post : Option Value → PH → Prop} {x : Int32} {ty : FieldType} (r : Rt (some ty) Post Γ) (d : At cc pc (.ireturn) 1 nx) (hk : k ≤ rm.cells) (hn : n ≤ rm.slots) (hnr : narrow ty (.int x) = .int x) (hp : Post (some (.int x)) h) : J Γ h k n pc lv ([.int x]) := by
  obtain ⟨p, l', e, R, s, m, args, below, meth, co, D', A, Q⟩ := Γ
  obtain ⟨rfl, rfl, rfl, hx, hb, hml, hown, hts, hK, hA, hlk, hE⟩ := X
  obtain ⟨hd, rfl⟩ := d
  intro H locs ls hh hS hl
  exact W.widen hk hn (r.2 H locs _ (W.zret hx hb r.1 hnr (fun t ht hW => ⟨_, h, rfl, hp, by rw [ht]; exact hh, hS.F ht⟩) hS.2.2 hd hlk))
theorem J_lret (X : Cx l D cc own nL rm Γ) {Post : Option Value → PH → Prop} {x : Int64} (r : Rt (some .long) Post Γ) (d : At cc pc (.lreturn) 1 nx) (hk : k ≤ rm.cells) (hn : n ≤ rm.slots)  (hp : Post (some (.long x)) h) : J Γ h k n pc lv ([.long x]) := by
  obtain ⟨p, l', e, R, s, m, args, below, meth, co, D', A, Q⟩ := Γ
  obtain ⟨rfl, rfl, rfl, hx, hb, hml, hown, hts, hK, hA, hlk, hE⟩ := X
  obtain ⟨hd, rfl⟩ := d
  intro H locs ls hh hS hl
  exact W.widen hk hn (r.2 H locs _ (W.lret hx hb r.1 (fun t ht hW => ⟨_, h, rfl, hp, by rw [ht]; exact hh, hS.F ht⟩) hS.2.2 hd hlk))
theorem J_vret (X : Cx l D cc own nL rm Γ) {Post : Option Value → PH → Prop}  (r : Rt none Post Γ) (d : At cc pc (.return_) 1 nx) (hk : k ≤ rm.cells) (hn : n ≤ rm.slots)  (hp : Post (none) h) : J Γ h k n pc lv ([]) := by
  obtain ⟨p, l', e, R, s, m, args, below, meth, co, D', A, Q⟩ := Γ
  obtain ⟨rfl, rfl, rfl, hx, hb, hml, hown, hts, hK, hA, hlk, hE⟩ := X
  obtain ⟨hd, rfl⟩ := d
  intro H locs ls hh hS hl
  exact W.widen hk hn (r.2 H locs _ (W.vret hx hb r.1 (fun t ht hW => ⟨_, h, rfl, hp, by rw [ht]; exact hh, hS.F ht⟩) hS.2.2 hd hlk))
theorem J_aret (X : Cx l D cc own nL rm Γ) {Post : Option Value → PH → Prop} {v : Value} {ty : FieldType} (r : Rt (some ty) Post Γ) (d : At cc pc (.areturn) 1 nx) (hk : k ≤ rm.cells) (hn : n ≤ rm.slots) (hty : (∃ n, ty = .object n) ∨ ∃ t, ty = .array t) (hv : v = .null ∨ ∃ a, v = .ref a) (hp : Post (some (v)) h) : J Γ h k n pc lv ([v]) := by
  obtain ⟨p, l', e, R, s, m, args, below, meth, co, D', A, Q⟩ := Γ
  obtain ⟨rfl, rfl, rfl, hx, hb, hml, hown, hts, hK, hA, hlk, hE⟩ := X
  obtain ⟨hd, rfl⟩ := d
  intro H locs ls hh hS hl
  exact W.widen hk hn (r.2 H locs _ (W.aret hx hb r.1 hty hv (fun t ht hW => ⟨_, h, rfl, hp, by rw [ht]; exact hh, hS.F ht⟩) hS.2.2 hd hlk))
end JR
