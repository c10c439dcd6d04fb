set_option maxRecDepth 100000
/-! ROWS: instructions that leave the heap. n: the next pc -/
section JR
variable {γ : GP} {μ : MP} {φ : FP} {σ : Hp} {pc : Nat} {l : LVs} {st : List Value}
theorem J_iconst {i : Int} (n : Nat) (d : decode μ.1 pc = .ok (.iconst i, 1)) (e : pc + 1 = n)  (k : J γ μ φ σ n l (.int (Int32.ofInt i) :: st)) : J γ μ φ σ pc l (st) := by
  subst e
  exact J.st (fun p e R s m args below meth c Q K H locs cells slots ls hR hl w => lv_iconst K.x K.b d rfl w) k
theorem J_bipush {i : Int} (n : Nat) (d : decode μ.1 pc = .ok (.bipush i, 2)) (e : pc + 2 = n) (v : Int32) (hv : (Int8.ofInt i).toInt32 = v) (k : J γ μ φ σ n l (.int v :: st)) : J γ μ φ σ pc l (st) := by
  subst e
  exact J.st (fun p e R s m args below meth c Q K H locs cells slots ls hR hl w => lv_bipush K.x K.b d hv w) k
theorem J_sipush {i : Int} (n : Nat) (d : decode μ.1 pc = .ok (.sipush i, 3)) (e : pc + 3 = n) (v : Int32) (hv : (Int16.ofInt i).toInt32 = v) (k : J γ μ φ σ n l (.int v :: st)) : J γ μ φ σ pc l (st) := by
  subst e
  exact J.st (fun p e R s m args below meth c Q K H locs cells slots ls hR hl w => lv_sipush K.x K.b d hv w) k
theorem J_ic {i : Int} (n : Nat) (d : decode μ.1 pc = .ok (.iconst i, 1)) (e : pc + 1 = n) (v : Int32) (hv : Int32.ofInt i = v) (k : J γ μ φ σ n l (.int v :: st)) : J γ μ φ σ pc l (st) := by
  subst e
  exact J.st (fun p e R s m args below meth c Q K H locs cells slots ls hR hl w => lv_iconst K.x K.b d hv w) k
theorem J_lconst {i : Fin 2} (n : Nat) (d : decode μ.1 pc = .ok (.lconst i, 1)) (e : pc + 1 = n) (v : Int64) (hv : Int64.ofNat (i : Nat) = v) (k : J γ μ φ σ n l (.long v :: st)) : J γ μ φ σ pc l (st) := by
  subst e
  exact J.st (fun p e R s m args below meth c Q K H locs cells slots ls hR hl w => lv_lconst K.x K.b d hv w) k
theorem J_iadd {x y : Int32} (n : Nat) (d : decode μ.1 pc = .ok (.iadd, 1)) (e : pc + 1 = n)  (k : J γ μ φ σ n l (.int (x + y) :: st)) : J γ μ φ σ pc l (.int y :: .int x :: st) := by
  subst e
  exact J.st (fun p e R s m args below meth c Q K H locs cells slots ls hR hl w => lv_iadd K.x K.b d w) k
theorem J_isub {x y : Int32} (n : Nat) (d : decode μ.1 pc = .ok (.isub, 1)) (e : pc + 1 = n)  (k : J γ μ φ σ n l (.int (x - y) :: st)) : J γ μ φ σ pc l (.int y :: .int x :: st) := by
  subst e
  exact J.st (fun p e R s m args below meth c Q K H locs cells slots ls hR hl w => lv_isub K.x K.b d w) k
theorem J_imul {x y : Int32} (n : Nat) (d : decode μ.1 pc = .ok (.imul, 1)) (e : pc + 1 = n)  (k : J γ μ φ σ n l (.int (x * y) :: st)) : J γ μ φ σ pc l (.int y :: .int x :: st) := by
  subst e
  exact J.st (fun p e R s m args below meth c Q K H locs cells slots ls hR hl w => lv_imul K.x K.b d w) k
theorem J_iand {x y : Int32} (n : Nat) (d : decode μ.1 pc = .ok (.iand, 1)) (e : pc + 1 = n)  (k : J γ μ φ σ n l (.int (x &&& y) :: st)) : J γ μ φ σ pc l (.int y :: .int x :: st) := by
  subst e
  exact J.st (fun p e R s m args below meth c Q K H locs cells slots ls hR hl w => lv_iand K.x K.b d w) k
theorem J_ior {x y : Int32} (n : Nat) (d : decode μ.1 pc = .ok (.ior, 1)) (e : pc + 1 = n)  (k : J γ μ φ σ n l (.int (x ||| y) :: st)) : J γ μ φ σ pc l (.int y :: .int x :: st) := by
  subst e
  exact J.st (fun p e R s m args below meth c Q K H locs cells slots ls hR hl w => lv_ior K.x K.b d w) k
theorem J_ixor {x y : Int32} (n : Nat) (d : decode μ.1 pc = .ok (.ixor, 1)) (e : pc + 1 = n)  (k : J γ μ φ σ n l (.int (x ^^^ y) :: st)) : J γ μ φ σ pc l (.int y :: .int x :: st) := by
  subst e
  exact J.st (fun p e R s m args below meth c Q K H locs cells slots ls hR hl w => lv_ixor K.x K.b d w) k
theorem J_ishl {x y : Int32} (n : Nat) (d : decode μ.1 pc = .ok (.ishl, 1)) (e : pc + 1 = n)  (k : J γ μ φ σ n l (.int (x <<< (y &&& 31)) :: st)) : J γ μ φ σ pc l (.int y :: .int x :: st) := by
  subst e
  exact J.st (fun p e R s m args below meth c Q K H locs cells slots ls hR hl w => lv_ishl K.x K.b d w) k
theorem J_ishr {x y : Int32} (n : Nat) (d : decode μ.1 pc = .ok (.ishr, 1)) (e : pc + 1 = n)  (k : J γ μ φ σ n l (.int (x >>> (y &&& 31)) :: st)) : J γ μ φ σ pc l (.int y :: .int x :: st) := by
  subst e
  exact J.st (fun p e R s m args below meth c Q K H locs cells slots ls hR hl w => lv_ishr K.x K.b d w) k
/-- the rest, as the machine reckons it -/
def irm (x y : Int32) : Int32 := x - x / y * y
def lrm (x y : Int64) : Int64 := x - x / y * y
def iush (x y : Int32) : Int32 := (x.toUInt32 >>> (y.toUInt32 &&& Int32.toUInt32 31)).toInt32
def i2c (x : Int32) : Int32 := (x.toUInt32 % 65536).toInt32
theorem J_idiv {x y : Int32} (n : Nat) (d : decode μ.1 pc = .ok (.idiv, 1)) (e : pc + 1 = n) (h : ¬ y = 0) (k : J γ μ φ σ n l (.int (x / y) :: st)) : J γ μ φ σ pc l (.int y :: .int x :: st) := by
  subst e
  exact J.st (fun p e R s m args below meth c Q K H locs cells slots ls hR hl w => lv_idiv K.x K.b d h w) k
theorem J_irem {x y : Int32} (n : Nat) (d : decode μ.1 pc = .ok (.irem, 1)) (e : pc + 1 = n) (h : ¬ y = 0) (k : J γ μ φ σ n l (.int (irm x y) :: st)) : J γ μ φ σ pc l (.int y :: .int x :: st) := by
  subst e
  exact J.st (fun p e R s m args below meth c Q K H locs cells slots ls hR hl w => lv_irem K.x K.b d h w) k
theorem J_ldiv {x y : Int64} (n : Nat) (d : decode μ.1 pc = .ok (.ldiv, 1)) (e : pc + 1 = n) (h : ¬ y = 0) (k : J γ μ φ σ n l (.long (x / y) :: st)) : J γ μ φ σ pc l (.long y :: .long x :: st) := by
  subst e
  exact J.st (fun p e R s m args below meth c Q K H locs cells slots ls hR hl w => lv_ldiv K.x K.b d h w) k
theorem J_lrem {x y : Int64} (n : Nat) (d : decode μ.1 pc = .ok (.lrem, 1)) (e : pc + 1 = n) (h : ¬ y = 0) (k : J γ μ φ σ n l (.long (lrm x y) :: st)) : J γ μ φ σ pc l (.long y :: .long x :: st) := by
  subst e
  exact J.st (fun p e R s m args below meth c Q K H locs cells slots ls hR hl w => lv_lrem K.x K.b d h w) k
theorem J_iushr {x y : Int32} (n : Nat) (d : decode μ.1 pc = .ok (.iushr, 1)) (e : pc + 1 = n)  (k : J γ μ φ σ n l (.int (iush x y) :: st)) : J γ μ φ σ pc l (.int y :: .int x :: st) := by
  subst e
  exact J.st (fun p e R s m args below meth c Q K H locs cells slots ls hR hl w => lv_iushr K.x K.b d rfl w) k
theorem J_ineg {x : Int32} (n : Nat) (d : decode μ.1 pc = .ok (.ineg, 1)) (e : pc + 1 = n)  (k : J γ μ φ σ n l (.int (-x) :: st)) : J γ μ φ σ pc l (.int x :: st) := by
  subst e
  exact J.st (fun p e R s m args below meth c Q K H locs cells slots ls hR hl w => lv_ineg K.x K.b d w) k
theorem J_lneg {x : Int64} (n : Nat) (d : decode μ.1 pc = .ok (.lneg, 1)) (e : pc + 1 = n)  (k : J γ μ φ σ n l (.long (-x) :: st)) : J γ μ φ σ pc l (.long x :: st) := by
  subst e
  exact J.st (fun p e R s m args below meth c Q K H locs cells slots ls hR hl w => lv_lneg K.x K.b d w) k
theorem J_ladd {x y : Int64} (n : Nat) (d : decode μ.1 pc = .ok (.ladd, 1)) (e : pc + 1 = n)  (k : J γ μ φ σ n l (.long (x + y) :: st)) : J γ μ φ σ pc l (.long y :: .long x :: st) := by
  subst e
  exact J.st (fun p e R s m args below meth c Q K H locs cells slots ls hR hl w => lv_ladd K.x K.b d w) k
theorem J_lsub {x y : Int64} (n : Nat) (d : decode μ.1 pc = .ok (.lsub, 1)) (e : pc + 1 = n)  (k : J γ μ φ σ n l (.long (x - y) :: st)) : J γ μ φ σ pc l (.long y :: .long x :: st) := by
  subst e
  exact J.st (fun p e R s m args below meth c Q K H locs cells slots ls hR hl w => lv_lsub K.x K.b d w) k
theorem J_lmul {x y : Int64} (n : Nat) (d : decode μ.1 pc = .ok (.lmul, 1)) (e : pc + 1 = n)  (k : J γ μ φ σ n l (.long (x * y) :: st)) : J γ μ φ σ pc l (.long y :: .long x :: st) := by
  subst e
  exact J.st (fun p e R s m args below meth c Q K H locs cells slots ls hR hl w => lv_lmul K.x K.b d w) k
theorem J_land {x y : Int64} (n : Nat) (d : decode μ.1 pc = .ok (.land, 1)) (e : pc + 1 = n)  (k : J γ μ φ σ n l (.long (x &&& y) :: st)) : J γ μ φ σ pc l (.long y :: .long x :: st) := by
  subst e
  exact J.st (fun p e R s m args below meth c Q K H locs cells slots ls hR hl w => lv_land K.x K.b d w) k
theorem J_lor {x y : Int64} (n : Nat) (d : decode μ.1 pc = .ok (.lor, 1)) (e : pc + 1 = n)  (k : J γ μ φ σ n l (.long (x ||| y) :: st)) : J γ μ φ σ pc l (.long y :: .long x :: st) := by
  subst e
  exact J.st (fun p e R s m args below meth c Q K H locs cells slots ls hR hl w => lv_lor K.x K.b d w) k
theorem J_lxor {x y : Int64} (n : Nat) (d : decode μ.1 pc = .ok (.lxor, 1)) (e : pc + 1 = n)  (k : J γ μ φ σ n l (.long (x ^^^ y) :: st)) : J γ μ φ σ pc l (.long y :: .long x :: st) := by
  subst e
  exact J.st (fun p e R s m args below meth c Q K H locs cells slots ls hR hl w => lv_lxor K.x K.b d w) k
theorem J_lshl {x : Int64} {y : Int32} (n : Nat) (d : decode μ.1 pc = .ok (.lshl, 1)) (e : pc + 1 = n)  (k : J γ μ φ σ n l (.long (x <<< (y.toInt64 &&& 63)) :: st)) : J γ μ φ σ pc l (.int y :: .long x :: st) := by
  subst e
  exact J.st (fun p e R s m args below meth c Q K H locs cells slots ls hR hl w => lv_lshl K.x K.b d rfl w) k
theorem J_lshr {x : Int64} {y : Int32} (n : Nat) (d : decode μ.1 pc = .ok (.lshr, 1)) (e : pc + 1 = n)  (k : J γ μ φ σ n l (.long (x >>> (y.toInt64 &&& 63)) :: st)) : J γ μ φ σ pc l (.int y :: .long x :: st) := by
  subst e
  exact J.st (fun p e R s m args below meth c Q K H locs cells slots ls hR hl w => lv_lshr K.x K.b d rfl w) k
theorem J_lcmp {x y : Int64} (n : Nat) (d : decode μ.1 pc = .ok (.lcmp, 1)) (e : pc + 1 = n)  (k : J γ μ φ σ n l (.int (lg_cmp x y) :: st)) : J γ μ φ σ pc l (.long y :: .long x :: st) := by
  subst e
  exact J.st (fun p e R s m args below meth c Q K H locs cells slots ls hR hl w => W.lcmp K.x K.b d w) k
theorem J_i2l {x : Int32} (n : Nat) (d : decode μ.1 pc = .ok (.i2l, 1)) (e : pc + 1 = n)  (k : J γ μ φ σ n l (.long x.toInt64 :: st)) : J γ μ φ σ pc l (.int x :: st) := by
  subst e
  exact J.st (fun p e R s m args below meth c Q K H locs cells slots ls hR hl w => lv_i2l K.x K.b d rfl w) k
theorem J_l2i {x : Int64} (n : Nat) (d : decode μ.1 pc = .ok (.l2i, 1)) (e : pc + 1 = n)  (k : J γ μ φ σ n l (.int x.toInt32 :: st)) : J γ μ φ σ pc l (.long x :: st) := by
  subst e
  exact J.st (fun p e R s m args below meth c Q K H locs cells slots ls hR hl w => lv_l2i K.x K.b d rfl w) k
theorem J_i2b {x : Int32} (n : Nat) (d : decode μ.1 pc = .ok (.i2b, 1)) (e : pc + 1 = n)  (k : J γ μ φ σ n l (.int x.toInt8.toInt32 :: st)) : J γ μ φ σ pc l (.int x :: st) := by
  subst e
  exact J.st (fun p e R s m args below meth c Q K H locs cells slots ls hR hl w => lv_i2b K.x K.b d rfl w) k
theorem J_i2c {x : Int32} (n : Nat) (d : decode μ.1 pc = .ok (.i2c, 1)) (e : pc + 1 = n)  (k : J γ μ φ σ n l (.int (i2c x) :: st)) : J γ μ φ σ pc l (.int x :: st) := by
  subst e
  exact J.st (fun p e R s m args below meth c Q K H locs cells slots ls hR hl w => lv_i2c K.x K.b d rfl w) k
theorem rf_cat (r : Option Nat) : (va_rf r).category = 1 := by cases r <;> rfl
theorem J_dupi {x : Int32} (n : Nat) (d : decode μ.1 pc = .ok (.dup, 1)) (e : pc + 1 = n)  (k : J γ μ φ σ n l (.int x :: .int x :: st)) : J γ μ φ σ pc l (.int x :: st) := by
  subst e
  exact J.st (fun p e R s m args below meth c Q K H locs cells slots ls hR hl w => lv_dup K.x K.b d rfl w) k
theorem J_popi {x : Int32} (n : Nat) (d : decode μ.1 pc = .ok (.pop, 1)) (e : pc + 1 = n)  (k : J γ μ φ σ n l (st)) : J γ μ φ σ pc l (.int x :: st) := by
  subst e
  exact J.st (fun p e R s m args below meth c Q K H locs cells slots ls hR hl w => lv_pop K.x K.b d rfl w) k
theorem J_dupr {x : Option Nat} (n : Nat) (d : decode μ.1 pc = .ok (.dup, 1)) (e : pc + 1 = n)  (k : J γ μ φ σ n l (va_rf x :: va_rf x :: st)) : J γ μ φ σ pc l (va_rf x :: st) := by
  subst e
  exact J.st (fun p e R s m args below meth c Q K H locs cells slots ls hR hl w => lv_dup K.x K.b d (rf_cat x) w) k
theorem J_popr {x : Option Nat} (n : Nat) (d : decode μ.1 pc = .ok (.pop, 1)) (e : pc + 1 = n)  (k : J γ μ φ σ n l (st)) : J γ μ φ σ pc l (va_rf x :: st) := by
  subst e
  exact J.st (fun p e R s m args below meth c Q K H locs cells slots ls hR hl w => lv_pop K.x K.b d (rf_cat x) w) k
theorem J_dup_x1ir {x : Int32} {y : Option Nat} (n : Nat) (d : decode μ.1 pc = .ok (.dup_x1, 1)) (e : pc + 1 = n)  (k : J γ μ φ σ n l (.int x :: va_rf y :: .int x :: st)) : J γ μ φ σ pc l (.int x :: va_rf y :: st) := by
  subst e
  exact J.st (fun p e R s m args below meth c Q K H locs cells slots ls hR hl w => lv_dup_x1 K.x K.b d rfl (rf_cat y) w) k
theorem J_dup_x1rr {x y : Option Nat} (n : Nat) (d : decode μ.1 pc = .ok (.dup_x1, 1)) (e : pc + 1 = n)  (k : J γ μ φ σ n l (va_rf x :: va_rf y :: va_rf x :: st)) : J γ μ φ σ pc l (va_rf x :: va_rf y :: st) := by
  subst e
  exact J.st (fun p e R s m args below meth c Q K H locs cells slots ls hR hl w => lv_dup_x1 K.x K.b d (rf_cat x) (rf_cat y) w) k
theorem J_dup2ir {x : Int32} {y : Option Nat} (n : Nat) (d : decode μ.1 pc = .ok (.dup2, 1)) (e : pc + 1 = n)  (k : J γ μ φ σ n l (.int x :: va_rf y :: .int x :: va_rf y :: st)) : J γ μ φ σ pc l (.int x :: va_rf y :: st) := by
  subst e
  exact J.st (fun p e R s m args below meth c Q K H locs cells slots ls hR hl w => lv_dup2_11 K.x K.b d rfl (rf_cat y) w) k
theorem J_dup2l {x : Int64} (n : Nat) (d : decode μ.1 pc = .ok (.dup2, 1)) (e : pc + 1 = n)  (k : J γ μ φ σ n l (.long x :: .long x :: st)) : J γ μ φ σ pc l (.long x :: st) := by
  subst e
  exact J.st (fun p e R s m args below meth c Q K H locs cells slots ls hR hl w => lv_dup2_2 K.x K.b d rfl w) k
theorem J_null  (n : Nat) (d : decode μ.1 pc = .ok (.aconst_null, 1)) (e : pc + 1 = n)  (k : J γ μ φ σ n l (va_rf none :: st)) : J γ μ φ σ pc l (st) := by
  subst e
  exact J.st (fun p e R s m args below meth c Q K H locs cells slots ls hR hl w => lv_null K.x K.b d w) k
theorem J_ldc {i : Nat} {v : Int32} (n : Nat) (d : decode μ.1 pc = .ok (.ldc i, 2)) (e : pc + 2 = n) (h : Cond.constant μ.2.1 i v ∈ lw_all) (k : J γ μ φ σ n l (.int v :: st)) : J γ μ φ σ pc l (st) := by
  subst e
  exact J.st (fun p e R s m args below meth c Q K H locs cells slots ls hR hl w => lv_ldc K.x K.b K.o (K.wd h) d w) k
theorem J_ldcw {i : Nat} {v : Int32} (n : Nat) (d : decode μ.1 pc = .ok (.ldc_w i, 3)) (e : pc + 3 = n) (h : Cond.constant μ.2.1 i v ∈ lw_all) (k : J γ μ φ σ n l (.int v :: st)) : J γ μ φ σ pc l (st) := by
  subst e
  exact J.st (fun p e R s m args below meth c Q K H locs cells slots ls hR hl w => lv_ldcw K.x K.b K.o (K.wd h) d w) k
theorem J_ldc2 {i : Nat} {v : Int64} (n : Nat) (d : decode μ.1 pc = .ok (.ldc2_w i, 3)) (e : pc + 3 = n) (h : Cond.constantLong μ.2.1 i v ∈ lw_all) (k : J γ μ φ σ n l (.long v :: st)) : J γ μ φ σ pc l (st) := by
  subst e
  exact J.st (fun p e R s m args below meth c Q K H locs cells slots ls hR hl w => lv_ldc2 K.x K.b K.o (K.wd h) d w) k
theorem J_iload_n {x : Int32} {k : Fin 4} {i : Nat} (j n : Nat) (d : decode μ.1 pc = .ok (.iload_n k, 1)) (e : pc + 1 = n) (hi : (k : Nat) = i) (h : l[j]? = some (i, 1, .int x)) (k9 : J γ μ φ σ n l (.int x :: st)) : J γ μ φ σ pc l st := by
  subst e
  exact J.st (fun p e R s m args below meth c Q K H locs cells slots ls hR hl w => lv_iload_n K.x K.b d hi (hl.at h) w) k9
theorem J_iload {x : Int32} {i : Nat} (j n : Nat) (d : decode μ.1 pc = .ok (.iload i, 2)) (e : pc + 2 = n) (h : l[j]? = some (i, 1, .int x)) (k9 : J γ μ φ σ n l (.int x :: st)) : J γ μ φ σ pc l st := by
  subst e
  exact J.st (fun p e R s m args below meth c Q K H locs cells slots ls hR hl w => lv_iload K.x K.b d (hl.at h) w) k9
theorem J_lload_n {x : Int64} {k : Fin 4} {i : Nat} (j n : Nat) (d : decode μ.1 pc = .ok (.lload_n k, 1)) (e : pc + 1 = n) (hi : (k : Nat) = i) (h : l[j]? = some (i, 2, .long x)) (k9 : J γ μ φ σ n l (.long x :: st)) : J γ μ φ σ pc l st := by
  subst e
  exact J.st (fun p e R s m args below meth c Q K H locs cells slots ls hR hl w => lv_lload_n K.x K.b d hi (hl.at h) w) k9
theorem J_lload {x : Int64} {i : Nat} (j n : Nat) (d : decode μ.1 pc = .ok (.lload i, 2)) (e : pc + 2 = n) (h : l[j]? = some (i, 2, .long x)) (k9 : J γ μ φ σ n l (.long x :: st)) : J γ μ φ σ pc l st := by
  subst e
  exact J.st (fun p e R s m args below meth c Q K H locs cells slots ls hR hl w => lv_lload K.x K.b d (hl.at h) w) k9
theorem J_aload_n {x : Option Nat} {k : Fin 4} {i : Nat} (j n : Nat) (d : decode μ.1 pc = .ok (.aload_n k, 1)) (e : pc + 1 = n) (hi : (k : Nat) = i) (h : l[j]? = some (i, 1, va_rf x)) (k9 : J γ μ φ σ n l (va_rf x :: st)) : J γ μ φ σ pc l st := by
  subst e
  cases x with
  | none => exact J.st (fun p e R s m args below meth c Q K H locs cells slots ls hR hl w => lv_aload_nN K.x K.b d hi (hl.at h) w) k9
  | some a => exact J.st (fun p e R s m args below meth c Q K H locs cells slots ls hR hl w => lv_aload_n K.x K.b d hi (hl.at h) w) k9
theorem J_aload {x : Option Nat} {i : Nat} (j n : Nat) (d : decode μ.1 pc = .ok (.aload i, 2)) (e : pc + 2 = n) (h : l[j]? = some (i, 1, va_rf x)) (k9 : J γ μ φ σ n l (va_rf x :: st)) : J γ μ φ σ pc l st := by
  subst e
  cases x with
  | none => exact J.st (fun p e R s m args below meth c Q K H locs cells slots ls hR hl w => lv_aloadN K.x K.b d (hl.at h) w) k9
  | some a => exact J.st (fun p e R s m args below meth c Q K H locs cells slots ls hR hl w => lv_aload K.x K.b d (hl.at h) w) k9
theorem J.stl {l' : LVs} {pc' : Nat} {st' : List Value}
    (h : ∀ (p : Program) (e : Env) (R : Room) (s : State) (m : MethodId) (args : Array Value) (below : List Frame) (meth : Method) (c : Code) (Q : State → Prop), KOK γ μ φ p R s m meth c → ∀ (H : Heap) (locs : List Loc) (cells slots : Nat) (ls : Array Slot), Rl γ s (hus φ.1) σ H locs cells slots → LV ls μ.2.2.1 l →
      (∀ ls' : Array Slot, LV ls' μ.2.2.1 l' → W p (gl γ) e R s m args below meth c H locs cells slots Q (F0 m pc' ls' st')) → W p (gl γ) e R s m args below meth c H locs cells slots Q (F0 m pc ls st))
    (k : J γ μ φ σ pc' l' st') : J γ μ φ σ pc l st :=
  ⟨k.1, fun p e R s m args below meth c K H locs cells slots ls hR hl => h p e R s m args below meth c _ K H locs cells slots ls hR hl (fun ls' hl' => k.2 p e R s m args below meth c K H locs cells slots ls' hR hl')⟩
theorem LVst2 {ls : Array Slot} {nL : Nat} {l : LVs} {i : Nat} {v : Value} {ls0 : Array Slot} (h : LV ls0 nL l) (hv : v.category = 2) (h1 : lv_has ls nL ((i, v) :: (unl l).filter (fun q => !(q.1 == i) && (!(q.1 == i + 1) && !(q.1 + 1 == i && q.2.category == 2))))) : LV ls nL (st2 l i v) := by
  refine ⟨?_, ?_⟩
  · rw [unl_filter2 h.2] at h1
    exact h1
  · intro q hq
    rcases List.mem_cons.mp hq with rfl | hq
    · exact hv
    · exact h.2 q (List.mem_filter.mp hq).1
theorem LVst1 {ls : Array Slot} {nL : Nat} {l : LVs} {i : Nat} {v : Value} {ls0 : Array Slot} (h : LV ls0 nL l) (hv : v.category = 1) (h1 : lv_has ls nL ((i, v) :: (unl l).filter (fun q => !(q.1 == i) && !(q.1 + 1 == i && q.2.category == 2)))) : LV ls nL (st1 l i v) := by
  refine ⟨?_, ?_⟩
  · rw [unl_filter1 h.2] at h1
    exact h1
  · intro q hq
    rcases List.mem_cons.mp hq with rfl | hq
    · exact hv
    · exact h.2 q (List.mem_filter.mp hq).1
theorem J_istore_n {x : Int32} {k : Fin 4} {i : Nat} (n : Nat) (l' : LVs) (d : decode μ.1 pc = .ok (.istore_n k, 1)) (e : pc + 1 = n) (hi : (k : Nat) = i) (hn : i < μ.2.2.1) (h : st1 l i (.int x) = l') (k9 : J γ μ φ σ n l' st) : J γ μ φ σ pc l (.int x :: st) := by
  subst e
  subst h
  exact J.stl (fun p e R s m args below meth c Q K H locs cells slots ls hR hl w => lv_istore_n K.x K.b d hi hl.1 hn rfl (fun ls2 h2 => w ls2 (LVst1 hl rfl h2))) k9
theorem J_istore {x : Int32} {i : Nat} (n : Nat) (l' : LVs) (d : decode μ.1 pc = .ok (.istore i, 2)) (e : pc + 2 = n)  (hn : i < μ.2.2.1) (h : st1 l i (.int x) = l') (k9 : J γ μ φ σ n l' st) : J γ μ φ σ pc l (.int x :: st) := by
  subst e
  subst h
  exact J.stl (fun p e R s m args below meth c Q K H locs cells slots ls hR hl w => lv_istore K.x K.b d hl.1 hn rfl (fun ls2 h2 => w ls2 (LVst1 hl rfl h2))) k9
theorem J_lstore_n {x : Int64} {k : Fin 4} {i : Nat} (n : Nat) (l' : LVs) (d : decode μ.1 pc = .ok (.lstore_n k, 1)) (e : pc + 1 = n) (hi : (k : Nat) = i) (hn : i + 1 < μ.2.2.1) (h : st2 l i (.long x) = l') (k9 : J γ μ φ σ n l' st) : J γ μ φ σ pc l (.long x :: st) := by
  subst e
  subst h
  exact J.stl (fun p e R s m args below meth c Q K H locs cells slots ls hR hl w => lv_lstore_n K.x K.b d hi hl.1 hn rfl (fun ls2 h2 => w ls2 (LVst2 hl rfl h2))) k9
theorem J_lstore {x : Int64} {i : Nat} (n : Nat) (l' : LVs) (d : decode μ.1 pc = .ok (.lstore i, 2)) (e : pc + 2 = n)  (hn : i + 1 < μ.2.2.1) (h : st2 l i (.long x) = l') (k9 : J γ μ φ σ n l' st) : J γ μ φ σ pc l (.long x :: st) := by
  subst e
  subst h
  exact J.stl (fun p e R s m args below meth c Q K H locs cells slots ls hR hl w => lv_lstore K.x K.b d hl.1 hn rfl (fun ls2 h2 => w ls2 (LVst2 hl rfl h2))) k9
theorem J_astore_n {x : Option Nat} {k : Fin 4} {i : Nat} (n : Nat) (l' : LVs) (d : decode μ.1 pc = .ok (.astore_n k, 1)) (e : pc + 1 = n) (hi : (k : Nat) = i) (hn : i < μ.2.2.1) (h : st1 l i (va_rf x) = l') (k9 : J γ μ φ σ n l' st) : J γ μ φ σ pc l (va_rf x :: st) := by
  subst e
  subst h
  cases x with
  | none => exact J.stl (fun p e R s m args below meth c Q K H locs cells slots ls hR hl w => lv_astore_nN K.x K.b d hi hl.1 hn rfl (fun ls2 h2 => w ls2 (LVst1 hl rfl h2))) k9
  | some b => exact J.stl (fun p e R s m args below meth c Q K H locs cells slots ls hR hl w => lv_astore_n K.x K.b d hi hl.1 hn rfl (fun ls2 h2 => w ls2 (LVst1 hl rfl h2))) k9
theorem J_astore {x : Option Nat} {i : Nat} (n : Nat) (l' : LVs) (d : decode μ.1 pc = .ok (.astore i, 2)) (e : pc + 2 = n)  (hn : i < μ.2.2.1) (h : st1 l i (va_rf x) = l') (k9 : J γ μ φ σ n l' st) : J γ μ φ σ pc l (va_rf x :: st) := by
  subst e
  subst h
  cases x with
  | none => exact J.stl (fun p e R s m args below meth c Q K H locs cells slots ls hR hl w => lv_astoreN K.x K.b d hl.1 hn rfl (fun ls2 h2 => w ls2 (LVst1 hl rfl h2))) k9
  | some b => exact J.stl (fun p e R s m args below meth c Q K H locs cells slots ls hR hl w => lv_astore K.x K.b d hl.1 hn rfl (fun ls2 h2 => w ls2 (LVst1 hl rfl h2))) k9
theorem J_iinc {x v : Int32} {i : Nat} {z : Int} (j n : Nat) (l' : LVs) (d : decode μ.1 pc = .ok (.iinc i z, 3)) (e : pc + 3 = n) (h0 : l[j]? = some (i, 1, .int x)) (hn : i < μ.2.2.1) (hv : x + Int32.ofInt z = v) (h : st1 l i (.int v) = l') (k9 : J γ μ φ σ n l' st) : J γ μ φ σ pc l st := by
  subst e
  subst h
  exact J.stl (fun p e R s m args below meth c Q K H locs cells slots ls hR hl w => lv_iinc K.x K.b d hl.1 (k := j) (by unfold unl; rw [List.getElem?_map, h0]; rfl) hv hn rfl (fun ls2 h2 => w ls2 (LVst1 hl rfl h2))) k9
theorem J.br {P9 : Prop} {pt pf : Nat} {st' : List Value}
    (h : ∀ (p : Program) (e : Env) (R : Room) (s : State) (m : MethodId) (args : Array Value) (below : List Frame) (meth : Method) (c : Code) (Q : State → Prop), KOK γ μ φ p R s m meth c → ∀ (H : Heap) (locs : List Loc) (cells slots : Nat) (ls : Array Slot),
      (P9 → W p (gl γ) e R s m args below meth c H locs cells slots Q (F0 m pt ls st')) → (¬ P9 → W p (gl γ) e R s m args below meth c H locs cells slots Q (F0 m pf ls st')) → W p (gl γ) e R s m args below meth c H locs cells slots Q (F0 m pc ls st))
    (kt : P9 → J γ μ φ σ pt l st') (kf : ¬ P9 → J γ μ φ σ pf l st') : J γ μ φ σ pc l st := by
  rcases Classical.em P9 with hp | hp
  · exact ⟨(kt hp).1, fun p e R s m args below meth c K H locs cells slots ls hR hl => h p e R s m args below meth c _ K H locs cells slots ls (fun _ => (kt hp).2 p e R s m args below meth c K H locs cells slots ls hR hl) (fun q => absurd hp q)⟩
  · exact ⟨(kf hp).1, fun p e R s m args below meth c K H locs cells slots ls hR hl => h p e R s m args below meth c _ K H locs cells slots ls (fun q => absurd q hp) (fun _ => (kf hp).2 p e R s m args below meth c K H locs cells slots ls hR hl)⟩
theorem J_if_eq {x : Int32} {off : Int} (t n : Nat) (d : decode μ.1 pc = .ok (.ifCond .eq off, 3)) (ht : (pc : Int) + off = (t : Int)) (e : pc + 3 = n) (kt : x = 0 → J γ μ φ σ t l st) (kf : ¬ (x = 0) → J γ μ φ σ n l st) : J γ μ φ σ pc l (.int x :: st) := by
  subst e
  exact J.br (P9 := x = 0) (fun p e R s m args below meth c Q K H locs cells slots ls wt wf => lv_if_eq K.x K.b d ht wt wf) kt kf
theorem J_icmp_eq {x y : Int32} {off : Int} (t n : Nat) (d : decode μ.1 pc = .ok (.if_icmp .eq off, 3)) (ht : (pc : Int) + off = (t : Int)) (e : pc + 3 = n) (kt : x = y → J γ μ φ σ t l st) (kf : ¬ (x = y) → J γ μ φ σ n l st) : J γ μ φ σ pc l (.int y :: .int x :: st) := by
  subst e
  exact J.br (P9 := x = y) (fun p e R s m args below meth c Q K H locs cells slots ls wt wf => lv_icmp_eq K.x K.b d ht wt wf) kt kf
theorem J_if_ne {x : Int32} {off : Int} (t n : Nat) (d : decode μ.1 pc = .ok (.ifCond .ne off, 3)) (ht : (pc : Int) + off = (t : Int)) (e : pc + 3 = n) (kt : ¬ (x = 0) → J γ μ φ σ t l st) (kf : x = 0 → J γ μ φ σ n l st) : J γ μ φ σ pc l (.int x :: st) := by
  subst e
  exact J.br (P9 := x = 0) (fun p e R s m args below meth c Q K H locs cells slots ls wt wf => lv_if_ne K.x K.b d ht wf wt) kf kt
theorem J_icmp_ne {x y : Int32} {off : Int} (t n : Nat) (d : decode μ.1 pc = .ok (.if_icmp .ne off, 3)) (ht : (pc : Int) + off = (t : Int)) (e : pc + 3 = n) (kt : ¬ (x = y) → J γ μ φ σ t l st) (kf : x = y → J γ μ φ σ n l st) : J γ μ φ σ pc l (.int y :: .int x :: st) := by
  subst e
  exact J.br (P9 := x = y) (fun p e R s m args below meth c Q K H locs cells slots ls wt wf => lv_icmp_ne K.x K.b d ht wf wt) kf kt
theorem J_if_lt {x : Int32} {off : Int} (t n : Nat) (d : decode μ.1 pc = .ok (.ifCond .lt off, 3)) (ht : (pc : Int) + off = (t : Int)) (e : pc + 3 = n) (kt : x < 0 → J γ μ φ σ t l st) (kf : ¬ (x < 0) → J γ μ φ σ n l st) : J γ μ φ σ pc l (.int x :: st) := by
  subst e
  exact J.br (P9 := x < 0) (fun p e R s m args below meth c Q K H locs cells slots ls wt wf => lv_if_lt K.x K.b d ht wt wf) kt kf
theorem J_icmp_lt {x y : Int32} {off : Int} (t n : Nat) (d : decode μ.1 pc = .ok (.if_icmp .lt off, 3)) (ht : (pc : Int) + off = (t : Int)) (e : pc + 3 = n) (kt : x < y → J γ μ φ σ t l st) (kf : ¬ (x < y) → J γ μ φ σ n l st) : J γ μ φ σ pc l (.int y :: .int x :: st) := by
  subst e
  exact J.br (P9 := x < y) (fun p e R s m args below meth c Q K H locs cells slots ls wt wf => lv_icmp_lt K.x K.b d ht wt wf) kt kf
theorem J_if_ge {x : Int32} {off : Int} (t n : Nat) (d : decode μ.1 pc = .ok (.ifCond .ge off, 3)) (ht : (pc : Int) + off = (t : Int)) (e : pc + 3 = n) (kt : 0 ≤ x → J γ μ φ σ t l st) (kf : ¬ (0 ≤ x) → J γ μ φ σ n l st) : J γ μ φ σ pc l (.int x :: st) := by
  subst e
  exact J.br (P9 := 0 ≤ x) (fun p e R s m args below meth c Q K H locs cells slots ls wt wf => lv_if_ge K.x K.b d ht wt wf) kt kf
theorem J_icmp_ge {x y : Int32} {off : Int} (t n : Nat) (d : decode μ.1 pc = .ok (.if_icmp .ge off, 3)) (ht : (pc : Int) + off = (t : Int)) (e : pc + 3 = n) (kt : y ≤ x → J γ μ φ σ t l st) (kf : ¬ (y ≤ x) → J γ μ φ σ n l st) : J γ μ φ σ pc l (.int y :: .int x :: st) := by
  subst e
  exact J.br (P9 := y ≤ x) (fun p e R s m args below meth c Q K H locs cells slots ls wt wf => lv_icmp_ge K.x K.b d ht wt wf) kt kf
theorem J_if_gt {x : Int32} {off : Int} (t n : Nat) (d : decode μ.1 pc = .ok (.ifCond .gt off, 3)) (ht : (pc : Int) + off = (t : Int)) (e : pc + 3 = n) (kt : 0 < x → J γ μ φ σ t l st) (kf : ¬ (0 < x) → J γ μ φ σ n l st) : J γ μ φ σ pc l (.int x :: st) := by
  subst e
  exact J.br (P9 := 0 < x) (fun p e R s m args below meth c Q K H locs cells slots ls wt wf => lv_if_gt K.x K.b d ht wt wf) kt kf
theorem J_icmp_gt {x y : Int32} {off : Int} (t n : Nat) (d : decode μ.1 pc = .ok (.if_icmp .gt off, 3)) (ht : (pc : Int) + off = (t : Int)) (e : pc + 3 = n) (kt : y < x → J γ μ φ σ t l st) (kf : ¬ (y < x) → J γ μ φ σ n l st) : J γ μ φ σ pc l (.int y :: .int x :: st) := by
  subst e
  exact J.br (P9 := y < x) (fun p e R s m args below meth c Q K H locs cells slots ls wt wf => lv_icmp_gt K.x K.b d ht wt wf) kt kf
theorem J_if_le {x : Int32} {off : Int} (t n : Nat) (d : decode μ.1 pc = .ok (.ifCond .le off, 3)) (ht : (pc : Int) + off = (t : Int)) (e : pc + 3 = n) (kt : x ≤ 0 → J γ μ φ σ t l st) (kf : ¬ (x ≤ 0) → J γ μ φ σ n l st) : J γ μ φ σ pc l (.int x :: st) := by
  subst e
  exact J.br (P9 := x ≤ 0) (fun p e R s m args below meth c Q K H locs cells slots ls wt wf => lv_if_le K.x K.b d ht wt wf) kt kf
theorem J_icmp_le {x y : Int32} {off : Int} (t n : Nat) (d : decode μ.1 pc = .ok (.if_icmp .le off, 3)) (ht : (pc : Int) + off = (t : Int)) (e : pc + 3 = n) (kt : x ≤ y → J γ μ φ σ t l st) (kf : ¬ (x ≤ y) → J γ μ φ σ n l st) : J γ μ φ σ pc l (.int y :: .int x :: st) := by
  subst e
  exact J.br (P9 := x ≤ y) (fun p e R s m args below meth c Q K H locs cells slots ls wt wf => lv_icmp_le K.x K.b d ht wt wf) kt kf
theorem J_acmp_eq {x y : Option Nat} {off : Int} (t n : Nat) (d : decode μ.1 pc = .ok (.if_acmp .eq off, 3)) (ht : (pc : Int) + off = (t : Int)) (e : pc + 3 = n) (kt : x = y → J γ μ φ σ t l st) (kf : ¬ (x = y) → J γ μ φ σ n l st) : J γ μ φ σ pc l (va_rf y :: va_rf x :: st) := by
  subst e
  exact J.br (P9 := x = y) (fun p e R s m args below meth c Q K H locs cells slots ls wt wf => lv_acmp_eq K.x K.b d ht wt wf) kt kf
theorem J_acmp_ne {x y : Option Nat} {off : Int} (t n : Nat) (d : decode μ.1 pc = .ok (.if_acmp .ne off, 3)) (ht : (pc : Int) + off = (t : Int)) (e : pc + 3 = n) (kt : ¬ (x = y) → J γ μ φ σ t l st) (kf : x = y → J γ μ φ σ n l st) : J γ μ φ σ pc l (va_rf y :: va_rf x :: st) := by
  subst e
  exact J.br (P9 := x = y) (fun p e R s m args below meth c Q K H locs cells slots ls wt wf => lv_acmp_ne K.x K.b d ht wf wt) kf kt
theorem J_ifnull {x : Option Nat} {off : Int} (t n : Nat) (d : decode μ.1 pc = .ok (.ifnull off, 3)) (ht : (pc : Int) + off = (t : Int)) (e : pc + 3 = n) (kt : x = none → J γ μ φ σ t l st) (kf : ¬ (x = none) → J γ μ φ σ n l st) : J γ μ φ σ pc l (va_rf x :: st) := by
  subst e
  cases x with
  | none => exact J.st (fun p e R s m args below meth c Q K H locs cells slots ls hR hl w => lv_ifnullN K.x K.b d ht w) (kt rfl)
  | some a => exact J.st (fun p e R s m args below meth c Q K H locs cells slots ls hR hl w => lv_ifnull K.x K.b d w) (kf (fun q => by cases q))
theorem J_ifnonnull {x : Option Nat} {off : Int} (t n : Nat) (d : decode μ.1 pc = .ok (.ifnonnull off, 3)) (ht : (pc : Int) + off = (t : Int)) (e : pc + 3 = n) (kt : ¬ (x = none) → J γ μ φ σ t l st) (kf : x = none → J γ μ φ σ n l st) : J γ μ φ σ pc l (va_rf x :: st) := by
  subst e
  cases x with
  | none => exact J.st (fun p e R s m args below meth c Q K H locs cells slots ls hR hl w => lv_ifnonnullN K.x K.b d w) (kf rfl)
  | some a => exact J.st (fun p e R s m args below meth c Q K H locs cells slots ls hR hl w => lv_ifnonnull K.x K.b d ht w) (kt (fun q => by cases q))
theorem J_goto {off : Int} (t : Nat) (d : decode μ.1 pc = .ok (.goto off, 3)) (ht : (pc : Int) + off = (t : Int)) (k : J γ μ φ σ t l st) : J γ μ φ σ pc l st := J.st (fun p e R s m args below meth c Q K H locs cells slots ls hR hl w => lv_goto K.x K.b d ht w) k
theorem J_tsIn {dflt lo hi : Int} {offs : Array Int} {len : Nat} {x : Int32} {off : Int} (t : Nat) (d : decode μ.1 pc = .ok (.tableswitch dflt lo hi offs, len)) (h1 : ¬ x.toInt < lo) (h2 : ¬ hi < x.toInt) (ho : offs[(x.toInt - lo).toNat]? = some off) (ht : (pc : Int) + off = (t : Int)) (k : J γ μ φ σ t l st) : J γ μ φ σ pc l (.int x :: st) := J.st (fun p e R s m args below meth c Q K H locs cells slots ls hR hl w => lv_tableIn K.x K.b d h1 h2 ho ht w) k
theorem J_tsOut {dflt lo hi : Int} {offs : Array Int} {len : Nat} {x : Int32} (t : Nat) (d : decode μ.1 pc = .ok (.tableswitch dflt lo hi offs, len)) (h : x.toInt < lo ∨ hi < x.toInt) (ht : (pc : Int) + dflt = (t : Int)) (k : J γ μ φ σ t l st) : J γ μ φ σ pc l (.int x :: st) := J.st (fun p e R s m args below meth c Q K H locs cells slots ls hR hl w => lv_tableOut K.x K.b d h ht w) k
theorem J_lsw {dflt : Int} {ps : Array (Int × Int)} {len : Nat} {x : Int32} {off : Int} (t : Nat) (d : decode μ.1 pc = .ok (.lookupswitch dflt ps, len)) (hp : (ps.toList.zip (ps.toList.drop 1)).all (fun (a, next) => a.1 < next.1) = true) (ho : Op.lookupswitch.offset ps.toList dflt x.toInt = off) (ht : (pc : Int) + off = (t : Int)) (k : J γ μ φ σ t l st) : J γ μ φ σ pc l (.int x :: st) := J.st (fun p e R s m args below meth c Q K H locs cells slots ls hR hl w => lv_lookup K.x K.b d hp ho ht w) k
end JR
