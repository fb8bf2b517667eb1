/-! MY LAYER, 2: rows of plain instructions -/
section XROWS
variable {D : xG} {X : XX} {own : String} {cc : ByteArray} {ret : Option FieldType} {nm : String} {nL : Nat} {et : List ExceptionTableEntry} {fr lo mc ms : Nat} {Rl : Option Value → List va_W → Prop} {Rx : String → Nat → List va_W → Prop} {cs : List va_W} {k n pc : Nat} {L : List (Option Value)} {st : List Value}
theorem x_iconst (B : XB D X own cc ret nm nL et fr lo mc ms Rl Rx) (np : Nat) {i : Int} {v : Int32} (d : decode cc pc = .ok (.iconst i, 1)) (hv : Int32.ofInt i = v) (e : pc + 1 = np) (h : WX D X cs k n np L (.int v :: st)) : WX D X cs k n pc L (st) := by
  subst e
  obtain ⟨p, l, e0, R, s, m, args, below, meth, c, A, Q⟩ := X
  intro H locs ls hP hD hS hL
  exact lv_iconst B.1 B.2.1 d hv (h H locs ls hP hD hS hL)
theorem x_bipush (B : XB D X own cc ret nm nL et fr lo mc ms Rl Rx) (np : Nat) {i : Int} {v : Int32} (d : decode cc pc = .ok (.bipush i, 2)) (hv : (Int8.ofInt i).toInt32 = v) (e : pc + 2 = np) (h : WX D X cs k n np L (.int v :: st)) : WX D X cs k n pc L (st) := by
  subst e
  obtain ⟨p, l, e0, R, s, m, args, below, meth, c, A, Q⟩ := X
  intro H locs ls hP hD hS hL
  exact lv_bipush B.1 B.2.1 d hv (h H locs ls hP hD hS hL)
theorem x_sipush (B : XB D X own cc ret nm nL et fr lo mc ms Rl Rx) (np : Nat) {i : Int} {v : Int32} (d : decode cc pc = .ok (.sipush i, 3)) (hv : (Int16.ofInt i).toInt32 = v) (e : pc + 3 = np) (h : WX D X cs k n np L (.int v :: st)) : WX D X cs k n pc L (st) := by
  subst e
  obtain ⟨p, l, e0, R, s, m, args, below, meth, c, A, Q⟩ := X
  intro H locs ls hP hD hS hL
  exact lv_sipush B.1 B.2.1 d hv (h H locs ls hP hD hS hL)
theorem x_lconst (B : XB D X own cc ret nm nL et fr lo mc ms Rl Rx) (np : Nat) {i : Fin 2} {v : Int64} (d : decode cc pc = .ok (.lconst i, 1)) (hv : Int64.ofNat (i : Nat) = v) (e : pc + 1 = np) (h : WX D X cs k n np L (.long v :: st)) : WX D X cs k n pc L (st) := by
  subst e
  obtain ⟨p, l, e0, R, s, m, args, below, meth, c, A, Q⟩ := X
  intro H locs ls hP hD hS hL
  exact lv_lconst B.1 B.2.1 d hv (h H locs ls hP hD hS hL)
theorem x_ldc2 (B : XB D X own cc ret nm nL et fr lo mc ms Rl Rx) (np : Nat) {i : Nat} {v : Int64} (d : decode cc pc = .ok (.ldc2_w i, 3)) (hw : Cond.constantLong own i v ∈ lw_all) (e : pc + 3 = np) (h : WX D X cs k n np L (.long v :: st)) : WX D X cs k n pc L (st) := by
  subst e
  obtain ⟨p, l, e0, R, s, m, args, below, meth, c, A, Q⟩ := X
  intro H locs ls hP hD hS hL
  exact lv_ldc2 B.1 B.2.1 B.2.2.2.2.1 (B.2.2.2.2.2.1 _ hw) d (h H locs ls hP hD hS hL)
theorem x_ldc (B : XB D X own cc ret nm nL et fr lo mc ms Rl Rx) (np : Nat) {i : Nat} {v : Int32} (d : decode cc pc = .ok (.ldc i, 2)) (hw : Cond.constant own i v ∈ lw_all) (e : pc + 2 = np) (h : WX D X cs k n np L (.int v :: st)) : WX D X cs k n pc L (st) := by
  subst e
  obtain ⟨p, l, e0, R, s, m, args, below, meth, c, A, Q⟩ := X
  intro H locs ls hP hD hS hL
  exact lv_ldc B.1 B.2.1 B.2.2.2.2.1 (B.2.2.2.2.2.1 _ hw) d (h H locs ls hP hD hS hL)
theorem x_ldcw (B : XB D X own cc ret nm nL et fr lo mc ms Rl Rx) (np : Nat) {i : Nat} {v : Int32} (d : decode cc pc = .ok (.ldc_w i, 3)) (hw : Cond.constant own i v ∈ lw_all) (e : pc + 3 = np) (h : WX D X cs k n np L (.int v :: st)) : WX D X cs k n pc L (st) := by
  subst e
  obtain ⟨p, l, e0, R, s, m, args, below, meth, c, A, Q⟩ := X
  intro H locs ls hP hD hS hL
  exact lv_ldcw B.1 B.2.1 B.2.2.2.2.1 (B.2.2.2.2.2.1 _ hw) d (h H locs ls hP hD hS hL)
theorem x_null (B : XB D X own cc ret nm nL et fr lo mc ms Rl Rx) (np : Nat)  (d : decode cc pc = .ok (.aconst_null, 1)) (e : pc + 1 = np) (h : WX D X cs k n np L (.null :: st)) : WX D X cs k n pc L (st) := by
  subst e
  obtain ⟨p, l, e0, R, s, m, args, below, meth, c, A, Q⟩ := X
  intro H locs ls hP hD hS hL
  exact lv_null B.1 B.2.1 d (h H locs ls hP hD hS hL)
theorem x_iadd (B : XB D X own cc ret nm nL et fr lo mc ms Rl Rx) (np : Nat) {x y : Int32} (d : decode cc pc = .ok (.iadd, 1)) (e : pc + 1 = np) (h : WX D X cs k n np L (.int (x + y) :: st)) : WX D X cs k n pc L (.int y :: .int x :: st) := by
  subst e
  obtain ⟨p, l, e0, R, s, m, args, below, meth, c, A, Q⟩ := X
  intro H locs ls hP hD hS hL
  exact lv_iadd B.1 B.2.1 d (h H locs ls hP hD hS hL)
theorem x_isub (B : XB D X own cc ret nm nL et fr lo mc ms Rl Rx) (np : Nat) {x y : Int32} (d : decode cc pc = .ok (.isub, 1)) (e : pc + 1 = np) (h : WX D X cs k n np L (.int (x - y) :: st)) : WX D X cs k n pc L (.int y :: .int x :: st) := by
  subst e
  obtain ⟨p, l, e0, R, s, m, args, below, meth, c, A, Q⟩ := X
  intro H locs ls hP hD hS hL
  exact lv_isub B.1 B.2.1 d (h H locs ls hP hD hS hL)
theorem x_imul (B : XB D X own cc ret nm nL et fr lo mc ms Rl Rx) (np : Nat) {x y : Int32} (d : decode cc pc = .ok (.imul, 1)) (e : pc + 1 = np) (h : WX D X cs k n np L (.int (x * y) :: st)) : WX D X cs k n pc L (.int y :: .int x :: st) := by
  subst e
  obtain ⟨p, l, e0, R, s, m, args, below, meth, c, A, Q⟩ := X
  intro H locs ls hP hD hS hL
  exact lv_imul B.1 B.2.1 d (h H locs ls hP hD hS hL)
theorem x_iand (B : XB D X own cc ret nm nL et fr lo mc ms Rl Rx) (np : Nat) {x y : Int32} (d : decode cc pc = .ok (.iand, 1)) (e : pc + 1 = np) (h : WX D X cs k n np L (.int (x &&& y) :: st)) : WX D X cs k n pc L (.int y :: .int x :: st) := by
  subst e
  obtain ⟨p, l, e0, R, s, m, args, below, meth, c, A, Q⟩ := X
  intro H locs ls hP hD hS hL
  exact lv_iand B.1 B.2.1 d (h H locs ls hP hD hS hL)
theorem x_ior (B : XB D X own cc ret nm nL et fr lo mc ms Rl Rx) (np : Nat) {x y : Int32} (d : decode cc pc = .ok (.ior, 1)) (e : pc + 1 = np) (h : WX D X cs k n np L (.int (x ||| y) :: st)) : WX D X cs k n pc L (.int y :: .int x :: st) := by
  subst e
  obtain ⟨p, l, e0, R, s, m, args, below, meth, c, A, Q⟩ := X
  intro H locs ls hP hD hS hL
  exact lv_ior B.1 B.2.1 d (h H locs ls hP hD hS hL)
theorem x_ixor (B : XB D X own cc ret nm nL et fr lo mc ms Rl Rx) (np : Nat) {x y : Int32} (d : decode cc pc = .ok (.ixor, 1)) (e : pc + 1 = np) (h : WX D X cs k n np L (.int (x ^^^ y) :: st)) : WX D X cs k n pc L (.int y :: .int x :: st) := by
  subst e
  obtain ⟨p, l, e0, R, s, m, args, below, meth, c, A, Q⟩ := X
  intro H locs ls hP hD hS hL
  exact lv_ixor B.1 B.2.1 d (h H locs ls hP hD hS hL)
theorem x_ishl (B : XB D X own cc ret nm nL et fr lo mc ms Rl Rx) (np : Nat) {x y : Int32} (d : decode cc pc = .ok (.ishl, 1)) (e : pc + 1 = np) (h : WX D X cs k n np L (.int (x <<< (y &&& 31)) :: st)) : WX D X cs k n pc L (.int y :: .int x :: st) := by
  subst e
  obtain ⟨p, l, e0, R, s, m, args, below, meth, c, A, Q⟩ := X
  intro H locs ls hP hD hS hL
  exact lv_ishl B.1 B.2.1 d (h H locs ls hP hD hS hL)
theorem x_ishr (B : XB D X own cc ret nm nL et fr lo mc ms Rl Rx) (np : Nat) {x y : Int32} (d : decode cc pc = .ok (.ishr, 1)) (e : pc + 1 = np) (h : WX D X cs k n np L (.int (x >>> (y &&& 31)) :: st)) : WX D X cs k n pc L (.int y :: .int x :: st) := by
  subst e
  obtain ⟨p, l, e0, R, s, m, args, below, meth, c, A, Q⟩ := X
  intro H locs ls hP hD hS hL
  exact lv_ishr B.1 B.2.1 d (h H locs ls hP hD hS hL)
theorem x_idiv (B : XB D X own cc ret nm nL et fr lo mc ms Rl Rx) (np : Nat) {x y : Int32} (d : decode cc pc = .ok (.idiv, 1)) (hne : ¬ y = 0) (e : pc + 1 = np) (h : WX D X cs k n np L (.int (x / y) :: st)) : WX D X cs k n pc L (.int y :: .int x :: st) := by
  subst e
  obtain ⟨p, l, e0, R, s, m, args, below, meth, c, A, Q⟩ := X
  intro H locs ls hP hD hS hL
  exact lv_idiv B.1 B.2.1 d hne (h H locs ls hP hD hS hL)
theorem x_irem (B : XB D X own cc ret nm nL et fr lo mc ms Rl Rx) (np : Nat) {x y : Int32} (d : decode cc pc = .ok (.irem, 1)) (hne : ¬ y = 0) (e : pc + 1 = np) (h : WX D X cs k n np L (.int (x - x / y * y) :: st)) : WX D X cs k n pc L (.int y :: .int x :: st) := by
  subst e
  obtain ⟨p, l, e0, R, s, m, args, below, meth, c, A, Q⟩ := X
  intro H locs ls hP hD hS hL
  exact lv_irem B.1 B.2.1 d hne (h H locs ls hP hD hS hL)
theorem x_iushr (B : XB D X own cc ret nm nL et fr lo mc ms Rl Rx) (np : Nat) {x y : Int32} (d : decode cc pc = .ok (.iushr, 1)) (e : pc + 1 = np) (h : WX D X cs k n np L (.int (x.toUInt32 >>> (y.toUInt32 &&& Int32.toUInt32 31)).toInt32 :: st)) : WX D X cs k n pc L (.int y :: .int x :: st) := by
  subst e
  obtain ⟨p, l, e0, R, s, m, args, below, meth, c, A, Q⟩ := X
  intro H locs ls hP hD hS hL
  exact lv_iushr B.1 B.2.1 d rfl (h H locs ls hP hD hS hL)
theorem x_ineg (B : XB D X own cc ret nm nL et fr lo mc ms Rl Rx) (np : Nat) {x : Int32} (d : decode cc pc = .ok (.ineg, 1)) (e : pc + 1 = np) (h : WX D X cs k n np L (.int (-x) :: st)) : WX D X cs k n pc L (.int x :: st) := by
  subst e
  obtain ⟨p, l, e0, R, s, m, args, below, meth, c, A, Q⟩ := X
  intro H locs ls hP hD hS hL
  exact lv_ineg B.1 B.2.1 d (h H locs ls hP hD hS hL)
theorem x_i2b (B : XB D X own cc ret nm nL et fr lo mc ms Rl Rx) (np : Nat) {x : Int32} (d : decode cc pc = .ok (.i2b, 1)) (e : pc + 1 = np) (h : WX D X cs k n np L (.int x.toInt8.toInt32 :: st)) : WX D X cs k n pc L (.int x :: st) := by
  subst e
  obtain ⟨p, l, e0, R, s, m, args, below, meth, c, A, Q⟩ := X
  intro H locs ls hP hD hS hL
  exact lv_i2b B.1 B.2.1 d rfl (h H locs ls hP hD hS hL)
theorem x_i2s (B : XB D X own cc ret nm nL et fr lo mc ms Rl Rx) (np : Nat) {x : Int32} (d : decode cc pc = .ok (.i2s, 1)) (e : pc + 1 = np) (h : WX D X cs k n np L (.int x.toInt16.toInt32 :: st)) : WX D X cs k n pc L (.int x :: st) := by
  subst e
  obtain ⟨p, l, e0, R, s, m, args, below, meth, c, A, Q⟩ := X
  intro H locs ls hP hD hS hL
  exact lv_i2s B.1 B.2.1 d rfl (h H locs ls hP hD hS hL)
theorem x_i2c (B : XB D X own cc ret nm nL et fr lo mc ms Rl Rx) (np : Nat) {x : Int32} (d : decode cc pc = .ok (.i2c, 1)) (e : pc + 1 = np) (h : WX D X cs k n np L (.int (x.toUInt32 % 65536).toInt32 :: st)) : WX D X cs k n pc L (.int x :: st) := by
  subst e
  obtain ⟨p, l, e0, R, s, m, args, below, meth, c, A, Q⟩ := X
  intro H locs ls hP hD hS hL
  exact lv_i2c B.1 B.2.1 d rfl (h H locs ls hP hD hS hL)
theorem x_i2l (B : XB D X own cc ret nm nL et fr lo mc ms Rl Rx) (np : Nat) {x : Int32} (d : decode cc pc = .ok (.i2l, 1)) (e : pc + 1 = np) (h : WX D X cs k n np L (.long x.toInt64 :: st)) : WX D X cs k n pc L (.int x :: st) := by
  subst e
  obtain ⟨p, l, e0, R, s, m, args, below, meth, c, A, Q⟩ := X
  intro H locs ls hP hD hS hL
  exact lv_i2l B.1 B.2.1 d rfl (h H locs ls hP hD hS hL)
theorem x_ladd (B : XB D X own cc ret nm nL et fr lo mc ms Rl Rx) (np : Nat) {x y : Int64} (d : decode cc pc = .ok (.ladd, 1)) (e : pc + 1 = np) (h : WX D X cs k n np L (.long (x + y) :: st)) : WX D X cs k n pc L (.long y :: .long x :: st) := by
  subst e
  obtain ⟨p, l, e0, R, s, m, args, below, meth, c, A, Q⟩ := X
  intro H locs ls hP hD hS hL
  exact lv_ladd B.1 B.2.1 d (h H locs ls hP hD hS hL)
theorem x_lcmp (B : XB D X own cc ret nm nL et fr lo mc ms Rl Rx) (np : Nat) {x y : Int64} (d : decode cc pc = .ok (.lcmp, 1)) (e : pc + 1 = np) (h : WX D X cs k n np L (.int (lg_cmp x y) :: st)) : WX D X cs k n pc L (.long y :: .long x :: st) := by
  subst e
  obtain ⟨p, l, e0, R, s, m, args, below, meth, c, A, Q⟩ := X
  intro H locs ls hP hD hS hL
  exact W.lcmp B.1 B.2.1 d (h H locs ls hP hD hS hL)
theorem x_dup (B : XB D X own cc ret nm nL et fr lo mc ms Rl Rx) (np : Nat) {v : Value} (d : decode cc pc = .ok (.dup, 1)) (hv : v.category = 1) (e : pc + 1 = np) (h : WX D X cs k n np L (v :: v :: st)) : WX D X cs k n pc L (v :: st) := by
  subst e
  obtain ⟨p, l, e0, R, s, m, args, below, meth, c, A, Q⟩ := X
  intro H locs ls hP hD hS hL
  exact lv_dup B.1 B.2.1 d hv (h H locs ls hP hD hS hL)
theorem x_pop (B : XB D X own cc ret nm nL et fr lo mc ms Rl Rx) (np : Nat) {v : Value} (d : decode cc pc = .ok (.pop, 1)) (hv : v.category = 1) (e : pc + 1 = np) (h : WX D X cs k n np L (st)) : WX D X cs k n pc L (v :: st) := by
  subst e
  obtain ⟨p, l, e0, R, s, m, args, below, meth, c, A, Q⟩ := X
  intro H locs ls hP hD hS hL
  exact lv_pop B.1 B.2.1 d hv (h H locs ls hP hD hS hL)
theorem x_dup_x1 (B : XB D X own cc ret nm nL et fr lo mc ms Rl Rx) (np : Nat) {v w : Value} (d : decode cc pc = .ok (.dup_x1, 1)) (hv : v.category = 1) (hw : w.category = 1) (e : pc + 1 = np) (h : WX D X cs k n np L (v :: w :: v :: st)) : WX D X cs k n pc L (v :: w :: st) := by
  subst e
  obtain ⟨p, l, e0, R, s, m, args, below, meth, c, A, Q⟩ := X
  intro H locs ls hP hD hS hL
  exact lv_dup_x1 B.1 B.2.1 d hv hw (h H locs ls hP hD hS hL)
theorem x_dup_x2 (B : XB D X own cc ret nm nL et fr lo mc ms Rl Rx) (np : Nat) {v w z : Value} (d : decode cc pc = .ok (.dup_x2, 1)) (hv : v.category = 1) (hw : w.category = 1) (hz : z.category = 1) (e : pc + 1 = np) (h : WX D X cs k n np L (v :: w :: z :: v :: st)) : WX D X cs k n pc L (v :: w :: z :: st) := by
  subst e
  obtain ⟨p, l, e0, R, s, m, args, below, meth, c, A, Q⟩ := X
  intro H locs ls hP hD hS hL
  exact lv_dup_x2 B.1 B.2.1 d hv hw hz (h H locs ls hP hD hS hL)
theorem x_dup2 (B : XB D X own cc ret nm nL et fr lo mc ms Rl Rx) (np : Nat) {v w : Value} (d : decode cc pc = .ok (.dup2, 1)) (hv : v.category = 1) (hw : w.category = 1) (e : pc + 1 = np) (h : WX D X cs k n np L (v :: w :: v :: w :: st)) : WX D X cs k n pc L (v :: w :: st) := by
  subst e
  obtain ⟨p, l, e0, R, s, m, args, below, meth, c, A, Q⟩ := X
  intro H locs ls hP hD hS hL
  exact lv_dup2_11 B.1 B.2.1 d hv hw (h H locs ls hP hD hS hL)
theorem x_goto (B : XB D X own cc ret nm nL et fr lo mc ms Rl Rx) (np : Nat) {off : Int} (d : decode cc pc = .ok (.goto off, 3)) (e : (pc : Int) + off = (np : Int)) (h : WX D X cs k n np L st) : WX D X cs k n pc L st := by
  obtain ⟨p, l, e0, R, s, m, args, below, meth, c, A, Q⟩ := X
  intro H locs ls hP hD hS hL
  exact lv_goto B.1 B.2.1 d e (h H locs ls hP hD hS hL)
theorem x_if_eq (B : XB D X own cc ret nm nL et fr lo mc ms Rl Rx) (tp np : Nat) {x : Int32} {off : Int} (d : decode cc pc = .ok (.ifCond .eq off, 3)) (t : (pc : Int) + off = (tp : Int)) (e : pc + 3 = np) (kt : x = 0 → WX D X cs k n tp L st) (kf : ¬ x = 0 → WX D X cs k n np L st) : WX D X cs k n pc L (.int x :: st) := by
  subst e
  obtain ⟨p, l, e0, R, s, m, args, below, meth, c, A, Q⟩ := X
  intro H locs ls hP hD hS hL
  exact lv_if_eq B.1 B.2.1 d t (fun z => kt z H locs ls hP hD hS hL) (fun z => kf z H locs ls hP hD hS hL)
theorem x_if_eq_t (B : XB D X own cc ret nm nL et fr lo mc ms Rl Rx) (tp : Nat) {x : Int32} {off : Int} (d : decode cc pc = .ok (.ifCond .eq off, 3)) (t : (pc : Int) + off = (tp : Int)) (z : x = 0) (h : WX D X cs k n tp L st) : WX D X cs k n pc L (.int x :: st) := x_if_eq B tp _ d t rfl (fun _ => h) (fun q => absurd z q)
theorem x_if_eq_f (B : XB D X own cc ret nm nL et fr lo mc ms Rl Rx) (np : Nat) {x : Int32} {off : Int} {tp : Nat} (d : decode cc pc = .ok (.ifCond .eq off, 3)) (t : (pc : Int) + off = (tp : Int)) (e : pc + 3 = np) (z : ¬ x = 0) (h : WX D X cs k n np L st) : WX D X cs k n pc L (.int x :: st) := x_if_eq B tp np d t e (fun q => absurd q z) (fun _ => h)
theorem x_if_ne (B : XB D X own cc ret nm nL et fr lo mc ms Rl Rx) (tp np : Nat) {x : Int32} {off : Int} (d : decode cc pc = .ok (.ifCond .ne off, 3)) (t : (pc : Int) + off = (tp : Int)) (e : pc + 3 = np) (kt : ¬ x = 0 → WX D X cs k n tp L st) (kf : x = 0 → WX D X cs k n np L st) : WX D X cs k n pc L (.int x :: st) := by
  subst e
  obtain ⟨p, l, e0, R, s, m, args, below, meth, c, A, Q⟩ := X
  intro H locs ls hP hD hS hL
  exact lv_if_ne B.1 B.2.1 d t (fun z => kt z H locs ls hP hD hS hL) (fun z => kf z H locs ls hP hD hS hL)
theorem x_if_ne_t (B : XB D X own cc ret nm nL et fr lo mc ms Rl Rx) (tp : Nat) {x : Int32} {off : Int} (d : decode cc pc = .ok (.ifCond .ne off, 3)) (t : (pc : Int) + off = (tp : Int)) (z : ¬ x = 0) (h : WX D X cs k n tp L st) : WX D X cs k n pc L (.int x :: st) := x_if_ne B tp _ d t rfl (fun _ => h) (fun q => absurd q z)
theorem x_if_ne_f (B : XB D X own cc ret nm nL et fr lo mc ms Rl Rx) (np : Nat) {x : Int32} {off : Int} {tp : Nat} (d : decode cc pc = .ok (.ifCond .ne off, 3)) (t : (pc : Int) + off = (tp : Int)) (e : pc + 3 = np) (z : x = 0) (h : WX D X cs k n np L st) : WX D X cs k n pc L (.int x :: st) := x_if_ne B tp np d t e (fun q => absurd z q) (fun _ => h)
theorem x_if_lt (B : XB D X own cc ret nm nL et fr lo mc ms Rl Rx) (tp np : Nat) {x : Int32} {off : Int} (d : decode cc pc = .ok (.ifCond .lt off, 3)) (t : (pc : Int) + off = (tp : Int)) (e : pc + 3 = np) (kt : x < 0 → WX D X cs k n tp L st) (kf : ¬ x < 0 → WX D X cs k n np L st) : WX D X cs k n pc L (.int x :: st) := by
  subst e
  obtain ⟨p, l, e0, R, s, m, args, below, meth, c, A, Q⟩ := X
  intro H locs ls hP hD hS hL
  exact lv_if_lt B.1 B.2.1 d t (fun z => kt z H locs ls hP hD hS hL) (fun z => kf z H locs ls hP hD hS hL)
theorem x_if_lt_t (B : XB D X own cc ret nm nL et fr lo mc ms Rl Rx) (tp : Nat) {x : Int32} {off : Int} (d : decode cc pc = .ok (.ifCond .lt off, 3)) (t : (pc : Int) + off = (tp : Int)) (z : x < 0) (h : WX D X cs k n tp L st) : WX D X cs k n pc L (.int x :: st) := x_if_lt B tp _ d t rfl (fun _ => h) (fun q => absurd z q)
theorem x_if_lt_f (B : XB D X own cc ret nm nL et fr lo mc ms Rl Rx) (np : Nat) {x : Int32} {off : Int} {tp : Nat} (d : decode cc pc = .ok (.ifCond .lt off, 3)) (t : (pc : Int) + off = (tp : Int)) (e : pc + 3 = np) (z : ¬ x < 0) (h : WX D X cs k n np L st) : WX D X cs k n pc L (.int x :: st) := x_if_lt B tp np d t e (fun q => absurd q z) (fun _ => h)
theorem x_if_ge (B : XB D X own cc ret nm nL et fr lo mc ms Rl Rx) (tp np : Nat) {x : Int32} {off : Int} (d : decode cc pc = .ok (.ifCond .ge off, 3)) (t : (pc : Int) + off = (tp : Int)) (e : pc + 3 = np) (kt : 0 ≤ x → WX D X cs k n tp L st) (kf : ¬ 0 ≤ x → WX D X cs k n np L st) : WX D X cs k n pc L (.int x :: st) := by
  subst e
  obtain ⟨p, l, e0, R, s, m, args, below, meth, c, A, Q⟩ := X
  intro H locs ls hP hD hS hL
  exact lv_if_ge B.1 B.2.1 d t (fun z => kt z H locs ls hP hD hS hL) (fun z => kf z H locs ls hP hD hS hL)
theorem x_if_ge_t (B : XB D X own cc ret nm nL et fr lo mc ms Rl Rx) (tp : Nat) {x : Int32} {off : Int} (d : decode cc pc = .ok (.ifCond .ge off, 3)) (t : (pc : Int) + off = (tp : Int)) (z : 0 ≤ x) (h : WX D X cs k n tp L st) : WX D X cs k n pc L (.int x :: st) := x_if_ge B tp _ d t rfl (fun _ => h) (fun q => absurd z q)
theorem x_if_ge_f (B : XB D X own cc ret nm nL et fr lo mc ms Rl Rx) (np : Nat) {x : Int32} {off : Int} {tp : Nat} (d : decode cc pc = .ok (.ifCond .ge off, 3)) (t : (pc : Int) + off = (tp : Int)) (e : pc + 3 = np) (z : ¬ 0 ≤ x) (h : WX D X cs k n np L st) : WX D X cs k n pc L (.int x :: st) := x_if_ge B tp np d t e (fun q => absurd q z) (fun _ => h)
theorem x_if_gt (B : XB D X own cc ret nm nL et fr lo mc ms Rl Rx) (tp np : Nat) {x : Int32} {off : Int} (d : decode cc pc = .ok (.ifCond .gt off, 3)) (t : (pc : Int) + off = (tp : Int)) (e : pc + 3 = np) (kt : 0 < x → WX D X cs k n tp L st) (kf : ¬ 0 < x → WX D X cs k n np L st) : WX D X cs k n pc L (.int x :: st) := by
  subst e
  obtain ⟨p, l, e0, R, s, m, args, below, meth, c, A, Q⟩ := X
  intro H locs ls hP hD hS hL
  exact lv_if_gt B.1 B.2.1 d t (fun z => kt z H locs ls hP hD hS hL) (fun z => kf z H locs ls hP hD hS hL)
theorem x_if_gt_t (B : XB D X own cc ret nm nL et fr lo mc ms Rl Rx) (tp : Nat) {x : Int32} {off : Int} (d : decode cc pc = .ok (.ifCond .gt off, 3)) (t : (pc : Int) + off = (tp : Int)) (z : 0 < x) (h : WX D X cs k n tp L st) : WX D X cs k n pc L (.int x :: st) := x_if_gt B tp _ d t rfl (fun _ => h) (fun q => absurd z q)
theorem x_if_gt_f (B : XB D X own cc ret nm nL et fr lo mc ms Rl Rx) (np : Nat) {x : Int32} {off : Int} {tp : Nat} (d : decode cc pc = .ok (.ifCond .gt off, 3)) (t : (pc : Int) + off = (tp : Int)) (e : pc + 3 = np) (z : ¬ 0 < x) (h : WX D X cs k n np L st) : WX D X cs k n pc L (.int x :: st) := x_if_gt B tp np d t e (fun q => absurd q z) (fun _ => h)
theorem x_if_le (B : XB D X own cc ret nm nL et fr lo mc ms Rl Rx) (tp np : Nat) {x : Int32} {off : Int} (d : decode cc pc = .ok (.ifCond .le off, 3)) (t : (pc : Int) + off = (tp : Int)) (e : pc + 3 = np) (kt : x ≤ 0 → WX D X cs k n tp L st) (kf : ¬ x ≤ 0 → WX D X cs k n np L st) : WX D X cs k n pc L (.int x :: st) := by
  subst e
  obtain ⟨p, l, e0, R, s, m, args, below, meth, c, A, Q⟩ := X
  intro H locs ls hP hD hS hL
  exact lv_if_le B.1 B.2.1 d t (fun z => kt z H locs ls hP hD hS hL) (fun z => kf z H locs ls hP hD hS hL)
theorem x_if_le_t (B : XB D X own cc ret nm nL et fr lo mc ms Rl Rx) (tp : Nat) {x : Int32} {off : Int} (d : decode cc pc = .ok (.ifCond .le off, 3)) (t : (pc : Int) + off = (tp : Int)) (z : x ≤ 0) (h : WX D X cs k n tp L st) : WX D X cs k n pc L (.int x :: st) := x_if_le B tp _ d t rfl (fun _ => h) (fun q => absurd z q)
theorem x_if_le_f (B : XB D X own cc ret nm nL et fr lo mc ms Rl Rx) (np : Nat) {x : Int32} {off : Int} {tp : Nat} (d : decode cc pc = .ok (.ifCond .le off, 3)) (t : (pc : Int) + off = (tp : Int)) (e : pc + 3 = np) (z : ¬ x ≤ 0) (h : WX D X cs k n np L st) : WX D X cs k n pc L (.int x :: st) := x_if_le B tp np d t e (fun q => absurd q z) (fun _ => h)
theorem x_icmp_eq (B : XB D X own cc ret nm nL et fr lo mc ms Rl Rx) (tp np : Nat) {x y : Int32} {off : Int} (d : decode cc pc = .ok (.if_icmp .eq off, 3)) (t : (pc : Int) + off = (tp : Int)) (e : pc + 3 = np) (kt : x = y → WX D X cs k n tp L st) (kf : ¬ x = y → WX D X cs k n np L st) : WX D X cs k n pc L (.int y :: .int x :: st) := by
  subst e
  obtain ⟨p, l, e0, R, s, m, args, below, meth, c, A, Q⟩ := X
  intro H locs ls hP hD hS hL
  exact lv_icmp_eq B.1 B.2.1 d t (fun z => kt z H locs ls hP hD hS hL) (fun z => kf z H locs ls hP hD hS hL)
theorem x_icmp_eq_t (B : XB D X own cc ret nm nL et fr lo mc ms Rl Rx) (tp : Nat) {x y : Int32} {off : Int} (d : decode cc pc = .ok (.if_icmp .eq off, 3)) (t : (pc : Int) + off = (tp : Int)) (z : x = y) (h : WX D X cs k n tp L st) : WX D X cs k n pc L (.int y :: .int x :: st) := x_icmp_eq B tp _ d t rfl (fun _ => h) (fun q => absurd z q)
theorem x_icmp_eq_f (B : XB D X own cc ret nm nL et fr lo mc ms Rl Rx) (np : Nat) {x y : Int32} {off : Int} {tp : Nat} (d : decode cc pc = .ok (.if_icmp .eq off, 3)) (t : (pc : Int) + off = (tp : Int)) (e : pc + 3 = np) (z : ¬ x = y) (h : WX D X cs k n np L st) : WX D X cs k n pc L (.int y :: .int x :: st) := x_icmp_eq B tp np d t e (fun q => absurd q z) (fun _ => h)
theorem x_icmp_ne (B : XB D X own cc ret nm nL et fr lo mc ms Rl Rx) (tp np : Nat) {x y : Int32} {off : Int} (d : decode cc pc = .ok (.if_icmp .ne off, 3)) (t : (pc : Int) + off = (tp : Int)) (e : pc + 3 = np) (kt : ¬ x = y → WX D X cs k n tp L st) (kf : x = y → WX D X cs k n np L st) : WX D X cs k n pc L (.int y :: .int x :: st) := by
  subst e
  obtain ⟨p, l, e0, R, s, m, args, below, meth, c, A, Q⟩ := X
  intro H locs ls hP hD hS hL
  exact lv_icmp_ne B.1 B.2.1 d t (fun z => kt z H locs ls hP hD hS hL) (fun z => kf z H locs ls hP hD hS hL)
theorem x_icmp_ne_t (B : XB D X own cc ret nm nL et fr lo mc ms Rl Rx) (tp : Nat) {x y : Int32} {off : Int} (d : decode cc pc = .ok (.if_icmp .ne off, 3)) (t : (pc : Int) + off = (tp : Int)) (z : ¬ x = y) (h : WX D X cs k n tp L st) : WX D X cs k n pc L (.int y :: .int x :: st) := x_icmp_ne B tp _ d t rfl (fun _ => h) (fun q => absurd q z)
theorem x_icmp_ne_f (B : XB D X own cc ret nm nL et fr lo mc ms Rl Rx) (np : Nat) {x y : Int32} {off : Int} {tp : Nat} (d : decode cc pc = .ok (.if_icmp .ne off, 3)) (t : (pc : Int) + off = (tp : Int)) (e : pc + 3 = np) (z : x = y) (h : WX D X cs k n np L st) : WX D X cs k n pc L (.int y :: .int x :: st) := x_icmp_ne B tp np d t e (fun q => absurd z q) (fun _ => h)
theorem x_icmp_lt (B : XB D X own cc ret nm nL et fr lo mc ms Rl Rx) (tp np : Nat) {x y : Int32} {off : Int} (d : decode cc pc = .ok (.if_icmp .lt off, 3)) (t : (pc : Int) + off = (tp : Int)) (e : pc + 3 = np) (kt : x < y → WX D X cs k n tp L st) (kf : ¬ x < y → WX D X cs k n np L st) : WX D X cs k n pc L (.int y :: .int x :: st) := by
  subst e
  obtain ⟨p, l, e0, R, s, m, args, below, meth, c, A, Q⟩ := X
  intro H locs ls hP hD hS hL
  exact lv_icmp_lt B.1 B.2.1 d t (fun z => kt z H locs ls hP hD hS hL) (fun z => kf z H locs ls hP hD hS hL)
theorem x_icmp_lt_t (B : XB D X own cc ret nm nL et fr lo mc ms Rl Rx) (tp : Nat) {x y : Int32} {off : Int} (d : decode cc pc = .ok (.if_icmp .lt off, 3)) (t : (pc : Int) + off = (tp : Int)) (z : x < y) (h : WX D X cs k n tp L st) : WX D X cs k n pc L (.int y :: .int x :: st) := x_icmp_lt B tp _ d t rfl (fun _ => h) (fun q => absurd z q)
theorem x_icmp_lt_f (B : XB D X own cc ret nm nL et fr lo mc ms Rl Rx) (np : Nat) {x y : Int32} {off : Int} {tp : Nat} (d : decode cc pc = .ok (.if_icmp .lt off, 3)) (t : (pc : Int) + off = (tp : Int)) (e : pc + 3 = np) (z : ¬ x < y) (h : WX D X cs k n np L st) : WX D X cs k n pc L (.int y :: .int x :: st) := x_icmp_lt B tp np d t e (fun q => absurd q z) (fun _ => h)
theorem x_icmp_ge (B : XB D X own cc ret nm nL et fr lo mc ms Rl Rx) (tp np : Nat) {x y : Int32} {off : Int} (d : decode cc pc = .ok (.if_icmp .ge off, 3)) (t : (pc : Int) + off = (tp : Int)) (e : pc + 3 = np) (kt : y ≤ x → WX D X cs k n tp L st) (kf : ¬ y ≤ x → WX D X cs k n np L st) : WX D X cs k n pc L (.int y :: .int x :: st) := by
  subst e
  obtain ⟨p, l, e0, R, s, m, args, below, meth, c, A, Q⟩ := X
  intro H locs ls hP hD hS hL
  exact lv_icmp_ge B.1 B.2.1 d t (fun z => kt z H locs ls hP hD hS hL) (fun z => kf z H locs ls hP hD hS hL)
theorem x_icmp_ge_t (B : XB D X own cc ret nm nL et fr lo mc ms Rl Rx) (tp : Nat) {x y : Int32} {off : Int} (d : decode cc pc = .ok (.if_icmp .ge off, 3)) (t : (pc : Int) + off = (tp : Int)) (z : y ≤ x) (h : WX D X cs k n tp L st) : WX D X cs k n pc L (.int y :: .int x :: st) := x_icmp_ge B tp _ d t rfl (fun _ => h) (fun q => absurd z q)
theorem x_icmp_ge_f (B : XB D X own cc ret nm nL et fr lo mc ms Rl Rx) (np : Nat) {x y : Int32} {off : Int} {tp : Nat} (d : decode cc pc = .ok (.if_icmp .ge off, 3)) (t : (pc : Int) + off = (tp : Int)) (e : pc + 3 = np) (z : ¬ y ≤ x) (h : WX D X cs k n np L st) : WX D X cs k n pc L (.int y :: .int x :: st) := x_icmp_ge B tp np d t e (fun q => absurd q z) (fun _ => h)
theorem x_icmp_gt (B : XB D X own cc ret nm nL et fr lo mc ms Rl Rx) (tp np : Nat) {x y : Int32} {off : Int} (d : decode cc pc = .ok (.if_icmp .gt off, 3)) (t : (pc : Int) + off = (tp : Int)) (e : pc + 3 = np) (kt : y < x → WX D X cs k n tp L st) (kf : ¬ y < x → WX D X cs k n np L st) : WX D X cs k n pc L (.int y :: .int x :: st) := by
  subst e
  obtain ⟨p, l, e0, R, s, m, args, below, meth, c, A, Q⟩ := X
  intro H locs ls hP hD hS hL
  exact lv_icmp_gt B.1 B.2.1 d t (fun z => kt z H locs ls hP hD hS hL) (fun z => kf z H locs ls hP hD hS hL)
theorem x_icmp_gt_t (B : XB D X own cc ret nm nL et fr lo mc ms Rl Rx) (tp : Nat) {x y : Int32} {off : Int} (d : decode cc pc = .ok (.if_icmp .gt off, 3)) (t : (pc : Int) + off = (tp : Int)) (z : y < x) (h : WX D X cs k n tp L st) : WX D X cs k n pc L (.int y :: .int x :: st) := x_icmp_gt B tp _ d t rfl (fun _ => h) (fun q => absurd z q)
theorem x_icmp_gt_f (B : XB D X own cc ret nm nL et fr lo mc ms Rl Rx) (np : Nat) {x y : Int32} {off : Int} {tp : Nat} (d : decode cc pc = .ok (.if_icmp .gt off, 3)) (t : (pc : Int) + off = (tp : Int)) (e : pc + 3 = np) (z : ¬ y < x) (h : WX D X cs k n np L st) : WX D X cs k n pc L (.int y :: .int x :: st) := x_icmp_gt B tp np d t e (fun q => absurd q z) (fun _ => h)
theorem x_icmp_le (B : XB D X own cc ret nm nL et fr lo mc ms Rl Rx) (tp np : Nat) {x y : Int32} {off : Int} (d : decode cc pc = .ok (.if_icmp .le off, 3)) (t : (pc : Int) + off = (tp : Int)) (e : pc + 3 = np) (kt : x ≤ y → WX D X cs k n tp L st) (kf : ¬ x ≤ y → WX D X cs k n np L st) : WX D X cs k n pc L (.int y :: .int x :: st) := by
  subst e
  obtain ⟨p, l, e0, R, s, m, args, below, meth, c, A, Q⟩ := X
  intro H locs ls hP hD hS hL
  exact lv_icmp_le B.1 B.2.1 d t (fun z => kt z H locs ls hP hD hS hL) (fun z => kf z H locs ls hP hD hS hL)
theorem x_icmp_le_t (B : XB D X own cc ret nm nL et fr lo mc ms Rl Rx) (tp : Nat) {x y : Int32} {off : Int} (d : decode cc pc = .ok (.if_icmp .le off, 3)) (t : (pc : Int) + off = (tp : Int)) (z : x ≤ y) (h : WX D X cs k n tp L st) : WX D X cs k n pc L (.int y :: .int x :: st) := x_icmp_le B tp _ d t rfl (fun _ => h) (fun q => absurd z q)
theorem x_icmp_le_f (B : XB D X own cc ret nm nL et fr lo mc ms Rl Rx) (np : Nat) {x y : Int32} {off : Int} {tp : Nat} (d : decode cc pc = .ok (.if_icmp .le off, 3)) (t : (pc : Int) + off = (tp : Int)) (e : pc + 3 = np) (z : ¬ x ≤ y) (h : WX D X cs k n np L st) : WX D X cs k n pc L (.int y :: .int x :: st) := x_icmp_le B tp np d t e (fun q => absurd q z) (fun _ => h)
theorem x_acmp_eq (B : XB D X own cc ret nm nL et fr lo mc ms Rl Rx) (tp np : Nat) {rx ry : Option Nat} {off : Int} (d : decode cc pc = .ok (.if_acmp .eq off, 3)) (t : (pc : Int) + off = (tp : Int)) (e : pc + 3 = np) (kt : rx = ry → WX D X cs k n tp L st) (kf : ¬ rx = ry → WX D X cs k n np L st) : WX D X cs k n pc L (va_rf ry :: va_rf rx :: st) := by
  subst e
  obtain ⟨p, l, e0, R, s, m, args, below, meth, c, A, Q⟩ := X
  intro H locs ls hP hD hS hL
  exact lv_acmp_eq B.1 B.2.1 d t (fun z => kt z H locs ls hP hD hS hL) (fun z => kf z H locs ls hP hD hS hL)
theorem x_acmp_ne (B : XB D X own cc ret nm nL et fr lo mc ms Rl Rx) (tp np : Nat) {rx ry : Option Nat} {off : Int} (d : decode cc pc = .ok (.if_acmp .ne off, 3)) (t : (pc : Int) + off = (tp : Int)) (e : pc + 3 = np) (kt : ¬ rx = ry → WX D X cs k n tp L st) (kf : rx = ry → WX D X cs k n np L st) : WX D X cs k n pc L (va_rf ry :: va_rf rx :: st) := by
  subst e
  obtain ⟨p, l, e0, R, s, m, args, below, meth, c, A, Q⟩ := X
  intro H locs ls hP hD hS hL
  exact lv_acmp_ne B.1 B.2.1 d t (fun z => kt z H locs ls hP hD hS hL) (fun z => kf z H locs ls hP hD hS hL)
theorem x_ifnull (B : XB D X own cc ret nm nL et fr lo mc ms Rl Rx) (np : Nat) {q : Nat} {off : Int} (d : decode cc pc = .ok (.ifnull off, 3)) (e : pc + 3 = np) (h : WX D X cs k n np L st) : WX D X cs k n pc L (.ref q :: st) := by
  subst e
  obtain ⟨p, l, e0, R, s, m, args, below, meth, c, A, Q⟩ := X
  intro H locs ls hP hD hS hL
  exact lv_ifnull B.1 B.2.1 d (h H locs ls hP hD hS hL)
theorem x_ifnullN (B : XB D X own cc ret nm nL et fr lo mc ms Rl Rx) (tp : Nat) {off : Int} (d : decode cc pc = .ok (.ifnull off, 3)) (t : (pc : Int) + off = (tp : Int)) (h : WX D X cs k n tp L st) : WX D X cs k n pc L (.null :: st) := by
  obtain ⟨p, l, e0, R, s, m, args, below, meth, c, A, Q⟩ := X
  intro H locs ls hP hD hS hL
  exact lv_ifnullN B.1 B.2.1 d t (h H locs ls hP hD hS hL)
theorem x_ifnonnull (B : XB D X own cc ret nm nL et fr lo mc ms Rl Rx) (tp : Nat) {q : Nat} {off : Int} (d : decode cc pc = .ok (.ifnonnull off, 3)) (t : (pc : Int) + off = (tp : Int)) (h : WX D X cs k n tp L st) : WX D X cs k n pc L (.ref q :: st) := by
  obtain ⟨p, l, e0, R, s, m, args, below, meth, c, A, Q⟩ := X
  intro H locs ls hP hD hS hL
  exact lv_ifnonnull B.1 B.2.1 d t (h H locs ls hP hD hS hL)
theorem x_ifnonnullN (B : XB D X own cc ret nm nL et fr lo mc ms Rl Rx) (np : Nat) {off : Int} (d : decode cc pc = .ok (.ifnonnull off, 3)) (e : pc + 3 = np) (h : WX D X cs k n np L st) : WX D X cs k n pc L (.null :: st) := by
  subst e
  obtain ⟨p, l, e0, R, s, m, args, below, meth, c, A, Q⟩ := X
  intro H locs ls hP hD hS hL
  exact lv_ifnonnullN B.1 B.2.1 d (h H locs ls hP hD hS hL)
theorem x_tabOut (B : XB D X own cc ret nm nL et fr lo mc ms Rl Rx) (tp : Nat) {dflt lo hi : Int} {offs : Array Int} {len : Nat} {x : Int32} (d : decode cc pc = .ok (.tableswitch dflt lo hi offs, len)) (hx : x.toInt < lo ∨ hi < x.toInt) (t : (pc : Int) + dflt = (tp : Int)) (h : WX D X cs k n tp L st) : WX D X cs k n pc L (.int x :: st) := by
  obtain ⟨p, l, e0, R, s, m, args, below, meth, c, A, Q⟩ := X
  intro H locs ls hP hD hS hL
  exact lv_tableOut B.1 B.2.1 d hx t (h H locs ls hP hD hS hL)
theorem x_tabIn (B : XB D X own cc ret nm nL et fr lo mc ms Rl Rx) (tp : Nat) {dflt lo hi : Int} {offs : Array Int} {len : Nat} {x : Int32} {off : Int} (d : decode cc pc = .ok (.tableswitch dflt lo hi offs, len)) (h1 : ¬ x.toInt < lo) (h2 : ¬ hi < x.toInt) (ho : offs[(x.toInt - lo).toNat]? = some off) (t : (pc : Int) + off = (tp : Int)) (h : WX D X cs k n tp L st) : WX D X cs k n pc L (.int x :: st) := by
  obtain ⟨p, l, e0, R, s, m, args, below, meth, c, A, Q⟩ := X
  intro H locs ls hP hD hS hL
  exact lv_tableIn B.1 B.2.1 d h1 h2 ho t (h H locs ls hP hD hS hL)
theorem x_widen {k2 n2 : Nat} (h1 : k ≤ k2) (h2 : n ≤ n2) (h : WX D X cs k2 n2 pc L st) : WX D X cs k n pc L st := by
  obtain ⟨p, l, e0, R, s, m, args, below, meth, c, A, Q⟩ := X
  intro H locs ls hP hD hS hL
  exact W.widen h1 h2 (h H locs ls hP hD hS hL)
theorem x_re (cs2 : List va_W) (h0 : xf cs = xf cs2) (h : WX D X cs2 k n pc L st) : WX D X cs k n pc L st := by
  obtain ⟨p, l, e0, R, s, m, args, below, meth, c, A, Q⟩ := X
  intro H locs ls hP hD hS hL
  rw [h0] at hP hD
  exact h H locs ls hP hD hS hL
theorem xL_forget (L2 : List (Option Value)) (h0 : L2.length = L.length) (h1 : ∀ (i : Nat) (v : Value), L2[i]? = some (some v) → L[i]? = some (some v)) {N : Nat} {ls : Array Slot} (h : xhas N ls L) : xhas N ls L2 := by
  refine ⟨⟨h.1.1, h.1.2.1, fun q hq => ?_⟩, by rw [h0]; exact h.2.1, fun v hv => ?_⟩
  · obtain ⟨j, w⟩ := q
    obtain ⟨k, e1, e2⟩ := xL_mem _ 0 j w hq
    have := h.get (h1 k w e2)
    rw [show j = k by omega]
    exact this
  · obtain ⟨i, hi⟩ := List.getElem?_of_mem hv
    exact h.2.2 v (List.mem_of_getElem? (h1 i v hi))
theorem x_forget (L2 : List (Option Value)) (h0 : L2.length = L.length) (h1 : ∀ (i : Nat) (v : Value), L2[i]? = some (some v) → L[i]? = some (some v)) (h : WX D X cs k n pc L2 st) : WX D X cs k n pc L st := by
  obtain ⟨p, l, e0, R, s, m, args, below, meth, c, A, Q⟩ := X
  intro H locs ls hP hD hS hL
  exact h H locs ls hP hD hS (xL_forget L2 h0 h1 hL)
def xisR : Value → Bool
  | .ref _ => true
  | .null => true
  | _ => false
theorem xisR_rf (r : Option Nat) : xisR (va_rf r) = true := by cases r <;> rfl
theorem xisR_cat {v : Value} (h : xisR v = true) : v.category = 1 := by cases v <;> first | rfl | cases h
theorem x_iload0 (B : XB D X own cc ret nm nL et fr lo mc ms Rl Rx) (np : Nat) {t : List (Option Value)} {x : Int32} (d : decode cc pc = .ok (.iload_n 0, 1)) (e : pc + 1 = np) (h : WX D X cs k n np (some (.int x) :: t) (.int x :: st)) : WX D X cs k n pc (some (.int x) :: t) st := by
  subst e
  obtain ⟨p, l, e0, R, s, m, args, below, meth, c, A, Q⟩ := X
  intro H locs ls hP hD hS hL
  exact lv_iload_n (k := (0 : Fin 4)) (i := 0) B.1 B.2.1 d rfl (hL.get (i := 0) rfl) (h H locs ls hP hD hS hL)
theorem x_aload0 (B : XB D X own cc ret nm nL et fr lo mc ms Rl Rx) (np : Nat) {t : List (Option Value)} {v : Value} (d : decode cc pc = .ok (.aload_n 0, 1)) (e : pc + 1 = np) (hv : xisR v = true) (h : WX D X cs k n np (some v :: t) (v :: st)) : WX D X cs k n pc (some v :: t) st := by
  subst e
  obtain ⟨p, l, e0, R, s, m, args, below, meth, c, A, Q⟩ := X
  intro H locs ls hP hD hS hL
  cases v with
  | ref q => exact lv_aload_n (k := (0 : Fin 4)) (i := 0) B.1 B.2.1 d rfl (hL.get (i := 0) rfl) (h H locs ls hP hD hS hL)
  | null => exact lv_aload_nN (k := (0 : Fin 4)) (i := 0) B.1 B.2.1 d rfl (hL.get (i := 0) rfl) (h H locs ls hP hD hS hL)
  | _ => cases hv
theorem x_istore0 (B : XB D X own cc ret nm nL et fr lo mc ms Rl Rx) (np : Nat) {t : List (Option Value)} {z : Option Value} {x : Int32} (d : decode cc pc = .ok (.istore_n 0, 1)) (e : pc + 1 = np) (h : WX D X cs k n np (some (.int x) :: t) st) : WX D X cs k n pc (z :: t) (.int x :: st) := by
  subst e
  obtain ⟨p, l, e0, R, s, m, args, below, meth, c, A, Q⟩ := X
  intro H locs ls hP hD hS hL
  exact lv_istore_n (k := (0 : Fin 4)) (i := 0) B.1 B.2.1 d rfl hL.1 (show 0 < c.maxLocals by rw [← hL.2.1]; simp) rfl (fun ls2 h2 => h H locs ls2 hP hD hS (hL.set (i := 0) rfl h2))
theorem x_astore0 (B : XB D X own cc ret nm nL et fr lo mc ms Rl Rx) (np : Nat) {t : List (Option Value)} {z : Option Value} {v : Value} (d : decode cc pc = .ok (.astore_n 0, 1)) (e : pc + 1 = np) (hv : xisR v = true) (h : WX D X cs k n np (some v :: t) st) : WX D X cs k n pc (z :: t) (v :: st) := by
  subst e
  obtain ⟨p, l, e0, R, s, m, args, below, meth, c, A, Q⟩ := X
  intro H locs ls hP hD hS hL
  cases v with
  | ref q => exact lv_astore_n (k := (0 : Fin 4)) (i := 0) B.1 B.2.1 d rfl hL.1 (show 0 < c.maxLocals by rw [← hL.2.1]; simp) rfl (fun ls2 h2 => h H locs ls2 hP hD hS (hL.set (i := 0) rfl h2))
  | null => exact lv_astore_nN (k := (0 : Fin 4)) (i := 0) B.1 B.2.1 d rfl hL.1 (show 0 < c.maxLocals by rw [← hL.2.1]; simp) rfl (fun ls2 h2 => h H locs ls2 hP hD hS (hL.set (i := 0) rfl h2))
  | _ => cases hv
theorem x_iinc0 (B : XB D X own cc ret nm nL et fr lo mc ms Rl Rx) (np : Nat) {t : List (Option Value)} {x : Int32} {j : Int} (d : decode cc pc = .ok (.iinc 0 j, 3)) (e : pc + 3 = np) {v : Int32} (hv : x + Int32.ofInt j = v) (h : WX D X cs k n np (some (.int v) :: t) st) : WX D X cs k n pc (some (.int x) :: t) st := by
  subst e
  obtain ⟨p, l, e0, R, s, m, args, below, meth, c, A, Q⟩ := X
  intro H locs ls hP hD hS hL
  obtain ⟨q, hq⟩ := List.getElem?_of_mem (show (0, Value.int x) ∈ xL 0 (some (.int x) :: t) by simpa using xL_in (some (.int x) :: t) 0 0 (.int x) rfl)
  exact lv_iinc (i := 0) B.1 B.2.1 d hL.1 hq hv (show 0 < c.maxLocals by rw [← hL.2.1]; simp) rfl (fun ls2 h2 => h H locs ls2 hP hD hS (hL.set (i := 0) rfl h2))
theorem x_iload1 (B : XB D X own cc ret nm nL et fr lo mc ms Rl Rx) (np : Nat) {a0 : Option Value} {t : List (Option Value)} {x : Int32} (d : decode cc pc = .ok (.iload_n 1, 1)) (e : pc + 1 = np) (h : WX D X cs k n np (a0 :: some (.int x) :: t) (.int x :: st)) : WX D X cs k n pc (a0 :: some (.int x) :: t) st := by
  subst e
  obtain ⟨p, l, e0, R, s, m, args, below, meth, c, A, Q⟩ := X
  intro H locs ls hP hD hS hL
  exact lv_iload_n (k := (1 : Fin 4)) (i := 1) B.1 B.2.1 d rfl (hL.get (i := 1) rfl) (h H locs ls hP hD hS hL)
theorem x_aload1 (B : XB D X own cc ret nm nL et fr lo mc ms Rl Rx) (np : Nat) {a0 : Option Value} {t : List (Option Value)} {v : Value} (d : decode cc pc = .ok (.aload_n 1, 1)) (e : pc + 1 = np) (hv : xisR v = true) (h : WX D X cs k n np (a0 :: some v :: t) (v :: st)) : WX D X cs k n pc (a0 :: some v :: t) st := by
  subst e
  obtain ⟨p, l, e0, R, s, m, args, below, meth, c, A, Q⟩ := X
  intro H locs ls hP hD hS hL
  cases v with
  | ref q => exact lv_aload_n (k := (1 : Fin 4)) (i := 1) B.1 B.2.1 d rfl (hL.get (i := 1) rfl) (h H locs ls hP hD hS hL)
  | null => exact lv_aload_nN (k := (1 : Fin 4)) (i := 1) B.1 B.2.1 d rfl (hL.get (i := 1) rfl) (h H locs ls hP hD hS hL)
  | _ => cases hv
theorem x_istore1 (B : XB D X own cc ret nm nL et fr lo mc ms Rl Rx) (np : Nat) {a0 : Option Value} {t : List (Option Value)} {z : Option Value} {x : Int32} (d : decode cc pc = .ok (.istore_n 1, 1)) (e : pc + 1 = np) (h : WX D X cs k n np (a0 :: some (.int x) :: t) st) : WX D X cs k n pc (a0 :: z :: t) (.int x :: st) := by
  subst e
  obtain ⟨p, l, e0, R, s, m, args, below, meth, c, A, Q⟩ := X
  intro H locs ls hP hD hS hL
  exact lv_istore_n (k := (1 : Fin 4)) (i := 1) B.1 B.2.1 d rfl hL.1 (show 1 < c.maxLocals by rw [← hL.2.1]; simp) rfl (fun ls2 h2 => h H locs ls2 hP hD hS (hL.set (i := 1) rfl h2))
theorem x_astore1 (B : XB D X own cc ret nm nL et fr lo mc ms Rl Rx) (np : Nat) {a0 : Option Value} {t : List (Option Value)} {z : Option Value} {v : Value} (d : decode cc pc = .ok (.astore_n 1, 1)) (e : pc + 1 = np) (hv : xisR v = true) (h : WX D X cs k n np (a0 :: some v :: t) st) : WX D X cs k n pc (a0 :: z :: t) (v :: st) := by
  subst e
  obtain ⟨p, l, e0, R, s, m, args, below, meth, c, A, Q⟩ := X
  intro H locs ls hP hD hS hL
  cases v with
  | ref q => exact lv_astore_n (k := (1 : Fin 4)) (i := 1) B.1 B.2.1 d rfl hL.1 (show 1 < c.maxLocals by rw [← hL.2.1]; simp) rfl (fun ls2 h2 => h H locs ls2 hP hD hS (hL.set (i := 1) rfl h2))
  | null => exact lv_astore_nN (k := (1 : Fin 4)) (i := 1) B.1 B.2.1 d rfl hL.1 (show 1 < c.maxLocals by rw [← hL.2.1]; simp) rfl (fun ls2 h2 => h H locs ls2 hP hD hS (hL.set (i := 1) rfl h2))
  | _ => cases hv
theorem x_iinc1 (B : XB D X own cc ret nm nL et fr lo mc ms Rl Rx) (np : Nat) {a0 : Option Value} {t : List (Option Value)} {x : Int32} {j : Int} (d : decode cc pc = .ok (.iinc 1 j, 3)) (e : pc + 3 = np) {v : Int32} (hv : x + Int32.ofInt j = v) (h : WX D X cs k n np (a0 :: some (.int v) :: t) st) : WX D X cs k n pc (a0 :: some (.int x) :: t) st := by
  subst e
  obtain ⟨p, l, e0, R, s, m, args, below, meth, c, A, Q⟩ := X
  intro H locs ls hP hD hS hL
  obtain ⟨q, hq⟩ := List.getElem?_of_mem (show (1, Value.int x) ∈ xL 0 (a0 :: some (.int x) :: t) by simpa using xL_in (a0 :: some (.int x) :: t) 0 1 (.int x) rfl)
  exact lv_iinc (i := 1) B.1 B.2.1 d hL.1 hq hv (show 1 < c.maxLocals by rw [← hL.2.1]; simp) rfl (fun ls2 h2 => h H locs ls2 hP hD hS (hL.set (i := 1) rfl h2))
theorem x_iload2 (B : XB D X own cc ret nm nL et fr lo mc ms Rl Rx) (np : Nat) {a0 a1 : Option Value} {t : List (Option Value)} {x : Int32} (d : decode cc pc = .ok (.iload_n 2, 1)) (e : pc + 1 = np) (h : WX D X cs k n np (a0 :: a1 :: some (.int x) :: t) (.int x :: st)) : WX D X cs k n pc (a0 :: a1 :: some (.int x) :: t) st := by
  subst e
  obtain ⟨p, l, e0, R, s, m, args, below, meth, c, A, Q⟩ := X
  intro H locs ls hP hD hS hL
  exact lv_iload_n (k := (2 : Fin 4)) (i := 2) B.1 B.2.1 d rfl (hL.get (i := 2) rfl) (h H locs ls hP hD hS hL)
theorem x_aload2 (B : XB D X own cc ret nm nL et fr lo mc ms Rl Rx) (np : Nat) {a0 a1 : Option Value} {t : List (Option Value)} {v : Value} (d : decode cc pc = .ok (.aload_n 2, 1)) (e : pc + 1 = np) (hv : xisR v = true) (h : WX D X cs k n np (a0 :: a1 :: some v :: t) (v :: st)) : WX D X cs k n pc (a0 :: a1 :: some v :: t) st := by
  subst e
  obtain ⟨p, l, e0, R, s, m, args, below, meth, c, A, Q⟩ := X
  intro H locs ls hP hD hS hL
  cases v with
  | ref q => exact lv_aload_n (k := (2 : Fin 4)) (i := 2) B.1 B.2.1 d rfl (hL.get (i := 2) rfl) (h H locs ls hP hD hS hL)
  | null => exact lv_aload_nN (k := (2 : Fin 4)) (i := 2) B.1 B.2.1 d rfl (hL.get (i := 2) rfl) (h H locs ls hP hD hS hL)
  | _ => cases hv
theorem x_istore2 (B : XB D X own cc ret nm nL et fr lo mc ms Rl Rx) (np : Nat) {a0 a1 : Option Value} {t : List (Option Value)} {z : Option Value} {x : Int32} (d : decode cc pc = .ok (.istore_n 2, 1)) (e : pc + 1 = np) (h : WX D X cs k n np (a0 :: a1 :: some (.int x) :: t) st) : WX D X cs k n pc (a0 :: a1 :: z :: t) (.int x :: st) := by
  subst e
  obtain ⟨p, l, e0, R, s, m, args, below, meth, c, A, Q⟩ := X
  intro H locs ls hP hD hS hL
  exact lv_istore_n (k := (2 : Fin 4)) (i := 2) B.1 B.2.1 d rfl hL.1 (show 2 < c.maxLocals by rw [← hL.2.1]; simp) rfl (fun ls2 h2 => h H locs ls2 hP hD hS (hL.set (i := 2) rfl h2))
theorem x_astore2 (B : XB D X own cc ret nm nL et fr lo mc ms Rl Rx) (np : Nat) {a0 a1 : Option Value} {t : List (Option Value)} {z : Option Value} {v : Value} (d : decode cc pc = .ok (.astore_n 2, 1)) (e : pc + 1 = np) (hv : xisR v = true) (h : WX D X cs k n np (a0 :: a1 :: some v :: t) st) : WX D X cs k n pc (a0 :: a1 :: z :: t) (v :: st) := by
  subst e
  obtain ⟨p, l, e0, R, s, m, args, below, meth, c, A, Q⟩ := X
  intro H locs ls hP hD hS hL
  cases v with
  | ref q => exact lv_astore_n (k := (2 : Fin 4)) (i := 2) B.1 B.2.1 d rfl hL.1 (show 2 < c.maxLocals by rw [← hL.2.1]; simp) rfl (fun ls2 h2 => h H locs ls2 hP hD hS (hL.set (i := 2) rfl h2))
  | null => exact lv_astore_nN (k := (2 : Fin 4)) (i := 2) B.1 B.2.1 d rfl hL.1 (show 2 < c.maxLocals by rw [← hL.2.1]; simp) rfl (fun ls2 h2 => h H locs ls2 hP hD hS (hL.set (i := 2) rfl h2))
  | _ => cases hv
theorem x_iinc2 (B : XB D X own cc ret nm nL et fr lo mc ms Rl Rx) (np : Nat) {a0 a1 : Option Value} {t : List (Option Value)} {x : Int32} {j : Int} (d : decode cc pc = .ok (.iinc 2 j, 3)) (e : pc + 3 = np) {v : Int32} (hv : x + Int32.ofInt j = v) (h : WX D X cs k n np (a0 :: a1 :: some (.int v) :: t) st) : WX D X cs k n pc (a0 :: a1 :: some (.int x) :: t) st := by
  subst e
  obtain ⟨p, l, e0, R, s, m, args, below, meth, c, A, Q⟩ := X
  intro H locs ls hP hD hS hL
  obtain ⟨q, hq⟩ := List.getElem?_of_mem (show (2, Value.int x) ∈ xL 0 (a0 :: a1 :: some (.int x) :: t) by simpa using xL_in (a0 :: a1 :: some (.int x) :: t) 0 2 (.int x) rfl)
  exact lv_iinc (i := 2) B.1 B.2.1 d hL.1 hq hv (show 2 < c.maxLocals by rw [← hL.2.1]; simp) rfl (fun ls2 h2 => h H locs ls2 hP hD hS (hL.set (i := 2) rfl h2))
theorem x_iload3 (B : XB D X own cc ret nm nL et fr lo mc ms Rl Rx) (np : Nat) {a0 a1 a2 : Option Value} {t : List (Option Value)} {x : Int32} (d : decode cc pc = .ok (.iload_n 3, 1)) (e : pc + 1 = np) (h : WX D X cs k n np (a0 :: a1 :: a2 :: some (.int x) :: t) (.int x :: st)) : WX D X cs k n pc (a0 :: a1 :: a2 :: some (.int x) :: t) st := by
  subst e
  obtain ⟨p, l, e0, R, s, m, args, below, meth, c, A, Q⟩ := X
  intro H locs ls hP hD hS hL
  exact lv_iload_n (k := (3 : Fin 4)) (i := 3) B.1 B.2.1 d rfl (hL.get (i := 3) rfl) (h H locs ls hP hD hS hL)
theorem x_aload3 (B : XB D X own cc ret nm nL et fr lo mc ms Rl Rx) (np : Nat) {a0 a1 a2 : Option Value} {t : List (Option Value)} {v : Value} (d : decode cc pc = .ok (.aload_n 3, 1)) (e : pc + 1 = np) (hv : xisR v = true) (h : WX D X cs k n np (a0 :: a1 :: a2 :: some v :: t) (v :: st)) : WX D X cs k n pc (a0 :: a1 :: a2 :: some v :: t) st := by
  subst e
  obtain ⟨p, l, e0, R, s, m, args, below, meth, c, A, Q⟩ := X
  intro H locs ls hP hD hS hL
  cases v with
  | ref q => exact lv_aload_n (k := (3 : Fin 4)) (i := 3) B.1 B.2.1 d rfl (hL.get (i := 3) rfl) (h H locs ls hP hD hS hL)
  | null => exact lv_aload_nN (k := (3 : Fin 4)) (i := 3) B.1 B.2.1 d rfl (hL.get (i := 3) rfl) (h H locs ls hP hD hS hL)
  | _ => cases hv
theorem x_istore3 (B : XB D X own cc ret nm nL et fr lo mc ms Rl Rx) (np : Nat) {a0 a1 a2 : Option Value} {t : List (Option Value)} {z : Option Value} {x : Int32} (d : decode cc pc = .ok (.istore_n 3, 1)) (e : pc + 1 = np) (h : WX D X cs k n np (a0 :: a1 :: a2 :: some (.int x) :: t) st) : WX D X cs k n pc (a0 :: a1 :: a2 :: z :: t) (.int x :: st) := by
  subst e
  obtain ⟨p, l, e0, R, s, m, args, below, meth, c, A, Q⟩ := X
  intro H locs ls hP hD hS hL
  exact lv_istore_n (k := (3 : Fin 4)) (i := 3) B.1 B.2.1 d rfl hL.1 (show 3 < c.maxLocals by rw [← hL.2.1]; simp) rfl (fun ls2 h2 => h H locs ls2 hP hD hS (hL.set (i := 3) rfl h2))
theorem x_astore3 (B : XB D X own cc ret nm nL et fr lo mc ms Rl Rx) (np : Nat) {a0 a1 a2 : Option Value} {t : List (Option Value)} {z : Option Value} {v : Value} (d : decode cc pc = .ok (.astore_n 3, 1)) (e : pc + 1 = np) (hv : xisR v = true) (h : WX D X cs k n np (a0 :: a1 :: a2 :: some v :: t) st) : WX D X cs k n pc (a0 :: a1 :: a2 :: z :: t) (v :: st) := by
  subst e
  obtain ⟨p, l, e0, R, s, m, args, below, meth, c, A, Q⟩ := X
  intro H locs ls hP hD hS hL
  cases v with
  | ref q => exact lv_astore_n (k := (3 : Fin 4)) (i := 3) B.1 B.2.1 d rfl hL.1 (show 3 < c.maxLocals by rw [← hL.2.1]; simp) rfl (fun ls2 h2 => h H locs ls2 hP hD hS (hL.set (i := 3) rfl h2))
  | null => exact lv_astore_nN (k := (3 : Fin 4)) (i := 3) B.1 B.2.1 d rfl hL.1 (show 3 < c.maxLocals by rw [← hL.2.1]; simp) rfl (fun ls2 h2 => h H locs ls2 hP hD hS (hL.set (i := 3) rfl h2))
  | _ => cases hv
theorem x_iinc3 (B : XB D X own cc ret nm nL et fr lo mc ms Rl Rx) (np : Nat) {a0 a1 a2 : Option Value} {t : List (Option Value)} {x : Int32} {j : Int} (d : decode cc pc = .ok (.iinc 3 j, 3)) (e : pc + 3 = np) {v : Int32} (hv : x + Int32.ofInt j = v) (h : WX D X cs k n np (a0 :: a1 :: a2 :: some (.int v) :: t) st) : WX D X cs k n pc (a0 :: a1 :: a2 :: some (.int x) :: t) st := by
  subst e
  obtain ⟨p, l, e0, R, s, m, args, below, meth, c, A, Q⟩ := X
  intro H locs ls hP hD hS hL
  obtain ⟨q, hq⟩ := List.getElem?_of_mem (show (3, Value.int x) ∈ xL 0 (a0 :: a1 :: a2 :: some (.int x) :: t) by simpa using xL_in (a0 :: a1 :: a2 :: some (.int x) :: t) 0 3 (.int x) rfl)
  exact lv_iinc (i := 3) B.1 B.2.1 d hL.1 hq hv (show 3 < c.maxLocals by rw [← hL.2.1]; simp) rfl (fun ls2 h2 => h H locs ls2 hP hD hS (hL.set (i := 3) rfl h2))
theorem x_iload4 (B : XB D X own cc ret nm nL et fr lo mc ms Rl Rx) (np : Nat) {a0 a1 a2 a3 : Option Value} {t : List (Option Value)} {x : Int32} (d : decode cc pc = .ok (.iload 4, 2)) (e : pc + 2 = np) (h : WX D X cs k n np (a0 :: a1 :: a2 :: a3 :: some (.int x) :: t) (.int x :: st)) : WX D X cs k n pc (a0 :: a1 :: a2 :: a3 :: some (.int x) :: t) st := by
  subst e
  obtain ⟨p, l, e0, R, s, m, args, below, meth, c, A, Q⟩ := X
  intro H locs ls hP hD hS hL
  exact lv_iload (i := 4) B.1 B.2.1 d (hL.get (i := 4) rfl) (h H locs ls hP hD hS hL)
theorem x_aload4 (B : XB D X own cc ret nm nL et fr lo mc ms Rl Rx) (np : Nat) {a0 a1 a2 a3 : Option Value} {t : List (Option Value)} {v : Value} (d : decode cc pc = .ok (.aload 4, 2)) (e : pc + 2 = np) (hv : xisR v = true) (h : WX D X cs k n np (a0 :: a1 :: a2 :: a3 :: some v :: t) (v :: st)) : WX D X cs k n pc (a0 :: a1 :: a2 :: a3 :: some v :: t) st := by
  subst e
  obtain ⟨p, l, e0, R, s, m, args, below, meth, c, A, Q⟩ := X
  intro H locs ls hP hD hS hL
  cases v with
  | ref q => exact lv_aload (i := 4) B.1 B.2.1 d (hL.get (i := 4) rfl) (h H locs ls hP hD hS hL)
  | null => exact lv_aloadN (i := 4) B.1 B.2.1 d (hL.get (i := 4) rfl) (h H locs ls hP hD hS hL)
  | _ => cases hv
theorem x_istore4 (B : XB D X own cc ret nm nL et fr lo mc ms Rl Rx) (np : Nat) {a0 a1 a2 a3 : Option Value} {t : List (Option Value)} {z : Option Value} {x : Int32} (d : decode cc pc = .ok (.istore 4, 2)) (e : pc + 2 = np) (h : WX D X cs k n np (a0 :: a1 :: a2 :: a3 :: some (.int x) :: t) st) : WX D X cs k n pc (a0 :: a1 :: a2 :: a3 :: z :: t) (.int x :: st) := by
  subst e
  obtain ⟨p, l, e0, R, s, m, args, below, meth, c, A, Q⟩ := X
  intro H locs ls hP hD hS hL
  exact lv_istore (i := 4) B.1 B.2.1 d hL.1 (show 4 < c.maxLocals by rw [← hL.2.1]; simp) rfl (fun ls2 h2 => h H locs ls2 hP hD hS (hL.set (i := 4) rfl h2))
theorem x_astore4 (B : XB D X own cc ret nm nL et fr lo mc ms Rl Rx) (np : Nat) {a0 a1 a2 a3 : Option Value} {t : List (Option Value)} {z : Option Value} {v : Value} (d : decode cc pc = .ok (.astore 4, 2)) (e : pc + 2 = np) (hv : xisR v = true) (h : WX D X cs k n np (a0 :: a1 :: a2 :: a3 :: some v :: t) st) : WX D X cs k n pc (a0 :: a1 :: a2 :: a3 :: z :: t) (v :: st) := by
  subst e
  obtain ⟨p, l, e0, R, s, m, args, below, meth, c, A, Q⟩ := X
  intro H locs ls hP hD hS hL
  cases v with
  | ref q => exact lv_astore (i := 4) B.1 B.2.1 d hL.1 (show 4 < c.maxLocals by rw [← hL.2.1]; simp) rfl (fun ls2 h2 => h H locs ls2 hP hD hS (hL.set (i := 4) rfl h2))
  | null => exact lv_astoreN (i := 4) B.1 B.2.1 d hL.1 (show 4 < c.maxLocals by rw [← hL.2.1]; simp) rfl (fun ls2 h2 => h H locs ls2 hP hD hS (hL.set (i := 4) rfl h2))
  | _ => cases hv
theorem x_iinc4 (B : XB D X own cc ret nm nL et fr lo mc ms Rl Rx) (np : Nat) {a0 a1 a2 a3 : Option Value} {t : List (Option Value)} {x : Int32} {j : Int} (d : decode cc pc = .ok (.iinc 4 j, 3)) (e : pc + 3 = np) {v : Int32} (hv : x + Int32.ofInt j = v) (h : WX D X cs k n np (a0 :: a1 :: a2 :: a3 :: some (.int v) :: t) st) : WX D X cs k n pc (a0 :: a1 :: a2 :: a3 :: some (.int x) :: t) st := by
  subst e
  obtain ⟨p, l, e0, R, s, m, args, below, meth, c, A, Q⟩ := X
  intro H locs ls hP hD hS hL
  obtain ⟨q, hq⟩ := List.getElem?_of_mem (show (4, Value.int x) ∈ xL 0 (a0 :: a1 :: a2 :: a3 :: some (.int x) :: t) by simpa using xL_in (a0 :: a1 :: a2 :: a3 :: some (.int x) :: t) 0 4 (.int x) rfl)
  exact lv_iinc (i := 4) B.1 B.2.1 d hL.1 hq hv (show 4 < c.maxLocals by rw [← hL.2.1]; simp) rfl (fun ls2 h2 => h H locs ls2 hP hD hS (hL.set (i := 4) rfl h2))
theorem x_iload5 (B : XB D X own cc ret nm nL et fr lo mc ms Rl Rx) (np : Nat) {a0 a1 a2 a3 a4 : Option Value} {t : List (Option Value)} {x : Int32} (d : decode cc pc = .ok (.iload 5, 2)) (e : pc + 2 = np) (h : WX D X cs k n np (a0 :: a1 :: a2 :: a3 :: a4 :: some (.int x) :: t) (.int x :: st)) : WX D X cs k n pc (a0 :: a1 :: a2 :: a3 :: a4 :: some (.int x) :: t) st := by
  subst e
  obtain ⟨p, l, e0, R, s, m, args, below, meth, c, A, Q⟩ := X
  intro H locs ls hP hD hS hL
  exact lv_iload (i := 5) B.1 B.2.1 d (hL.get (i := 5) rfl) (h H locs ls hP hD hS hL)
theorem x_aload5 (B : XB D X own cc ret nm nL et fr lo mc ms Rl Rx) (np : Nat) {a0 a1 a2 a3 a4 : Option Value} {t : List (Option Value)} {v : Value} (d : decode cc pc = .ok (.aload 5, 2)) (e : pc + 2 = np) (hv : xisR v = true) (h : WX D X cs k n np (a0 :: a1 :: a2 :: a3 :: a4 :: some v :: t) (v :: st)) : WX D X cs k n pc (a0 :: a1 :: a2 :: a3 :: a4 :: some v :: t) st := by
  subst e
  obtain ⟨p, l, e0, R, s, m, args, below, meth, c, A, Q⟩ := X
  intro H locs ls hP hD hS hL
  cases v with
  | ref q => exact lv_aload (i := 5) B.1 B.2.1 d (hL.get (i := 5) rfl) (h H locs ls hP hD hS hL)
  | null => exact lv_aloadN (i := 5) B.1 B.2.1 d (hL.get (i := 5) rfl) (h H locs ls hP hD hS hL)
  | _ => cases hv
theorem x_istore5 (B : XB D X own cc ret nm nL et fr lo mc ms Rl Rx) (np : Nat) {a0 a1 a2 a3 a4 : Option Value} {t : List (Option Value)} {z : Option Value} {x : Int32} (d : decode cc pc = .ok (.istore 5, 2)) (e : pc + 2 = np) (h : WX D X cs k n np (a0 :: a1 :: a2 :: a3 :: a4 :: some (.int x) :: t) st) : WX D X cs k n pc (a0 :: a1 :: a2 :: a3 :: a4 :: z :: t) (.int x :: st) := by
  subst e
  obtain ⟨p, l, e0, R, s, m, args, below, meth, c, A, Q⟩ := X
  intro H locs ls hP hD hS hL
  exact lv_istore (i := 5) B.1 B.2.1 d hL.1 (show 5 < c.maxLocals by rw [← hL.2.1]; simp) rfl (fun ls2 h2 => h H locs ls2 hP hD hS (hL.set (i := 5) rfl h2))
theorem x_astore5 (B : XB D X own cc ret nm nL et fr lo mc ms Rl Rx) (np : Nat) {a0 a1 a2 a3 a4 : Option Value} {t : List (Option Value)} {z : Option Value} {v : Value} (d : decode cc pc = .ok (.astore 5, 2)) (e : pc + 2 = np) (hv : xisR v = true) (h : WX D X cs k n np (a0 :: a1 :: a2 :: a3 :: a4 :: some v :: t) st) : WX D X cs k n pc (a0 :: a1 :: a2 :: a3 :: a4 :: z :: t) (v :: st) := by
  subst e
  obtain ⟨p, l, e0, R, s, m, args, below, meth, c, A, Q⟩ := X
  intro H locs ls hP hD hS hL
  cases v with
  | ref q => exact lv_astore (i := 5) B.1 B.2.1 d hL.1 (show 5 < c.maxLocals by rw [← hL.2.1]; simp) rfl (fun ls2 h2 => h H locs ls2 hP hD hS (hL.set (i := 5) rfl h2))
  | null => exact lv_astoreN (i := 5) B.1 B.2.1 d hL.1 (show 5 < c.maxLocals by rw [← hL.2.1]; simp) rfl (fun ls2 h2 => h H locs ls2 hP hD hS (hL.set (i := 5) rfl h2))
  | _ => cases hv
theorem x_iinc5 (B : XB D X own cc ret nm nL et fr lo mc ms Rl Rx) (np : Nat) {a0 a1 a2 a3 a4 : Option Value} {t : List (Option Value)} {x : Int32} {j : Int} (d : decode cc pc = .ok (.iinc 5 j, 3)) (e : pc + 3 = np) {v : Int32} (hv : x + Int32.ofInt j = v) (h : WX D X cs k n np (a0 :: a1 :: a2 :: a3 :: a4 :: some (.int v) :: t) st) : WX D X cs k n pc (a0 :: a1 :: a2 :: a3 :: a4 :: some (.int x) :: t) st := by
  subst e
  obtain ⟨p, l, e0, R, s, m, args, below, meth, c, A, Q⟩ := X
  intro H locs ls hP hD hS hL
  obtain ⟨q, hq⟩ := List.getElem?_of_mem (show (5, Value.int x) ∈ xL 0 (a0 :: a1 :: a2 :: a3 :: a4 :: some (.int x) :: t) by simpa using xL_in (a0 :: a1 :: a2 :: a3 :: a4 :: some (.int x) :: t) 0 5 (.int x) rfl)
  exact lv_iinc (i := 5) B.1 B.2.1 d hL.1 hq hv (show 5 < c.maxLocals by rw [← hL.2.1]; simp) rfl (fun ls2 h2 => h H locs ls2 hP hD hS (hL.set (i := 5) rfl h2))
theorem x_iload6 (B : XB D X own cc ret nm nL et fr lo mc ms Rl Rx) (np : Nat) {a0 a1 a2 a3 a4 a5 : Option Value} {t : List (Option Value)} {x : Int32} (d : decode cc pc = .ok (.iload 6, 2)) (e : pc + 2 = np) (h : WX D X cs k n np (a0 :: a1 :: a2 :: a3 :: a4 :: a5 :: some (.int x) :: t) (.int x :: st)) : WX D X cs k n pc (a0 :: a1 :: a2 :: a3 :: a4 :: a5 :: some (.int x) :: t) st := by
  subst e
  obtain ⟨p, l, e0, R, s, m, args, below, meth, c, A, Q⟩ := X
  intro H locs ls hP hD hS hL
  exact lv_iload (i := 6) B.1 B.2.1 d (hL.get (i := 6) rfl) (h H locs ls hP hD hS hL)
theorem x_aload6 (B : XB D X own cc ret nm nL et fr lo mc ms Rl Rx) (np : Nat) {a0 a1 a2 a3 a4 a5 : Option Value} {t : List (Option Value)} {v : Value} (d : decode cc pc = .ok (.aload 6, 2)) (e : pc + 2 = np) (hv : xisR v = true) (h : WX D X cs k n np (a0 :: a1 :: a2 :: a3 :: a4 :: a5 :: some v :: t) (v :: st)) : WX D X cs k n pc (a0 :: a1 :: a2 :: a3 :: a4 :: a5 :: some v :: t) st := by
  subst e
  obtain ⟨p, l, e0, R, s, m, args, below, meth, c, A, Q⟩ := X
  intro H locs ls hP hD hS hL
  cases v with
  | ref q => exact lv_aload (i := 6) B.1 B.2.1 d (hL.get (i := 6) rfl) (h H locs ls hP hD hS hL)
  | null => exact lv_aloadN (i := 6) B.1 B.2.1 d (hL.get (i := 6) rfl) (h H locs ls hP hD hS hL)
  | _ => cases hv
theorem x_istore6 (B : XB D X own cc ret nm nL et fr lo mc ms Rl Rx) (np : Nat) {a0 a1 a2 a3 a4 a5 : Option Value} {t : List (Option Value)} {z : Option Value} {x : Int32} (d : decode cc pc = .ok (.istore 6, 2)) (e : pc + 2 = np) (h : WX D X cs k n np (a0 :: a1 :: a2 :: a3 :: a4 :: a5 :: some (.int x) :: t) st) : WX D X cs k n pc (a0 :: a1 :: a2 :: a3 :: a4 :: a5 :: z :: t) (.int x :: st) := by
  subst e
  obtain ⟨p, l, e0, R, s, m, args, below, meth, c, A, Q⟩ := X
  intro H locs ls hP hD hS hL
  exact lv_istore (i := 6) B.1 B.2.1 d hL.1 (show 6 < c.maxLocals by rw [← hL.2.1]; simp) rfl (fun ls2 h2 => h H locs ls2 hP hD hS (hL.set (i := 6) rfl h2))
theorem x_astore6 (B : XB D X own cc ret nm nL et fr lo mc ms Rl Rx) (np : Nat) {a0 a1 a2 a3 a4 a5 : Option Value} {t : List (Option Value)} {z : Option Value} {v : Value} (d : decode cc pc = .ok (.astore 6, 2)) (e : pc + 2 = np) (hv : xisR v = true) (h : WX D X cs k n np (a0 :: a1 :: a2 :: a3 :: a4 :: a5 :: some v :: t) st) : WX D X cs k n pc (a0 :: a1 :: a2 :: a3 :: a4 :: a5 :: z :: t) (v :: st) := by
  subst e
  obtain ⟨p, l, e0, R, s, m, args, below, meth, c, A, Q⟩ := X
  intro H locs ls hP hD hS hL
  cases v with
  | ref q => exact lv_astore (i := 6) B.1 B.2.1 d hL.1 (show 6 < c.maxLocals by rw [← hL.2.1]; simp) rfl (fun ls2 h2 => h H locs ls2 hP hD hS (hL.set (i := 6) rfl h2))
  | null => exact lv_astoreN (i := 6) B.1 B.2.1 d hL.1 (show 6 < c.maxLocals by rw [← hL.2.1]; simp) rfl (fun ls2 h2 => h H locs ls2 hP hD hS (hL.set (i := 6) rfl h2))
  | _ => cases hv
theorem x_iinc6 (B : XB D X own cc ret nm nL et fr lo mc ms Rl Rx) (np : Nat) {a0 a1 a2 a3 a4 a5 : Option Value} {t : List (Option Value)} {x : Int32} {j : Int} (d : decode cc pc = .ok (.iinc 6 j, 3)) (e : pc + 3 = np) {v : Int32} (hv : x + Int32.ofInt j = v) (h : WX D X cs k n np (a0 :: a1 :: a2 :: a3 :: a4 :: a5 :: some (.int v) :: t) st) : WX D X cs k n pc (a0 :: a1 :: a2 :: a3 :: a4 :: a5 :: some (.int x) :: t) st := by
  subst e
  obtain ⟨p, l, e0, R, s, m, args, below, meth, c, A, Q⟩ := X
  intro H locs ls hP hD hS hL
  obtain ⟨q, hq⟩ := List.getElem?_of_mem (show (6, Value.int x) ∈ xL 0 (a0 :: a1 :: a2 :: a3 :: a4 :: a5 :: some (.int x) :: t) by simpa using xL_in (a0 :: a1 :: a2 :: a3 :: a4 :: a5 :: some (.int x) :: t) 0 6 (.int x) rfl)
  exact lv_iinc (i := 6) B.1 B.2.1 d hL.1 hq hv (show 6 < c.maxLocals by rw [← hL.2.1]; simp) rfl (fun ls2 h2 => h H locs ls2 hP hD hS (hL.set (i := 6) rfl h2))
theorem x_iload7 (B : XB D X own cc ret nm nL et fr lo mc ms Rl Rx) (np : Nat) {a0 a1 a2 a3 a4 a5 a6 : Option Value} {t : List (Option Value)} {x : Int32} (d : decode cc pc = .ok (.iload 7, 2)) (e : pc + 2 = np) (h : WX D X cs k n np (a0 :: a1 :: a2 :: a3 :: a4 :: a5 :: a6 :: some (.int x) :: t) (.int x :: st)) : WX D X cs k n pc (a0 :: a1 :: a2 :: a3 :: a4 :: a5 :: a6 :: some (.int x) :: t) st := by
  subst e
  obtain ⟨p, l, e0, R, s, m, args, below, meth, c, A, Q⟩ := X
  intro H locs ls hP hD hS hL
  exact lv_iload (i := 7) B.1 B.2.1 d (hL.get (i := 7) rfl) (h H locs ls hP hD hS hL)
theorem x_aload7 (B : XB D X own cc ret nm nL et fr lo mc ms Rl Rx) (np : Nat) {a0 a1 a2 a3 a4 a5 a6 : Option Value} {t : List (Option Value)} {v : Value} (d : decode cc pc = .ok (.aload 7, 2)) (e : pc + 2 = np) (hv : xisR v = true) (h : WX D X cs k n np (a0 :: a1 :: a2 :: a3 :: a4 :: a5 :: a6 :: some v :: t) (v :: st)) : WX D X cs k n pc (a0 :: a1 :: a2 :: a3 :: a4 :: a5 :: a6 :: some v :: t) st := by
  subst e
  obtain ⟨p, l, e0, R, s, m, args, below, meth, c, A, Q⟩ := X
  intro H locs ls hP hD hS hL
  cases v with
  | ref q => exact lv_aload (i := 7) B.1 B.2.1 d (hL.get (i := 7) rfl) (h H locs ls hP hD hS hL)
  | null => exact lv_aloadN (i := 7) B.1 B.2.1 d (hL.get (i := 7) rfl) (h H locs ls hP hD hS hL)
  | _ => cases hv
theorem x_istore7 (B : XB D X own cc ret nm nL et fr lo mc ms Rl Rx) (np : Nat) {a0 a1 a2 a3 a4 a5 a6 : Option Value} {t : List (Option Value)} {z : Option Value} {x : Int32} (d : decode cc pc = .ok (.istore 7, 2)) (e : pc + 2 = np) (h : WX D X cs k n np (a0 :: a1 :: a2 :: a3 :: a4 :: a5 :: a6 :: some (.int x) :: t) st) : WX D X cs k n pc (a0 :: a1 :: a2 :: a3 :: a4 :: a5 :: a6 :: z :: t) (.int x :: st) := by
  subst e
  obtain ⟨p, l, e0, R, s, m, args, below, meth, c, A, Q⟩ := X
  intro H locs ls hP hD hS hL
  exact lv_istore (i := 7) B.1 B.2.1 d hL.1 (show 7 < c.maxLocals by rw [← hL.2.1]; simp) rfl (fun ls2 h2 => h H locs ls2 hP hD hS (hL.set (i := 7) rfl h2))
theorem x_astore7 (B : XB D X own cc ret nm nL et fr lo mc ms Rl Rx) (np : Nat) {a0 a1 a2 a3 a4 a5 a6 : Option Value} {t : List (Option Value)} {z : Option Value} {v : Value} (d : decode cc pc = .ok (.astore 7, 2)) (e : pc + 2 = np) (hv : xisR v = true) (h : WX D X cs k n np (a0 :: a1 :: a2 :: a3 :: a4 :: a5 :: a6 :: some v :: t) st) : WX D X cs k n pc (a0 :: a1 :: a2 :: a3 :: a4 :: a5 :: a6 :: z :: t) (v :: st) := by
  subst e
  obtain ⟨p, l, e0, R, s, m, args, below, meth, c, A, Q⟩ := X
  intro H locs ls hP hD hS hL
  cases v with
  | ref q => exact lv_astore (i := 7) B.1 B.2.1 d hL.1 (show 7 < c.maxLocals by rw [← hL.2.1]; simp) rfl (fun ls2 h2 => h H locs ls2 hP hD hS (hL.set (i := 7) rfl h2))
  | null => exact lv_astoreN (i := 7) B.1 B.2.1 d hL.1 (show 7 < c.maxLocals by rw [← hL.2.1]; simp) rfl (fun ls2 h2 => h H locs ls2 hP hD hS (hL.set (i := 7) rfl h2))
  | _ => cases hv
theorem x_iinc7 (B : XB D X own cc ret nm nL et fr lo mc ms Rl Rx) (np : Nat) {a0 a1 a2 a3 a4 a5 a6 : Option Value} {t : List (Option Value)} {x : Int32} {j : Int} (d : decode cc pc = .ok (.iinc 7 j, 3)) (e : pc + 3 = np) {v : Int32} (hv : x + Int32.ofInt j = v) (h : WX D X cs k n np (a0 :: a1 :: a2 :: a3 :: a4 :: a5 :: a6 :: some (.int v) :: t) st) : WX D X cs k n pc (a0 :: a1 :: a2 :: a3 :: a4 :: a5 :: a6 :: some (.int x) :: t) st := by
  subst e
  obtain ⟨p, l, e0, R, s, m, args, below, meth, c, A, Q⟩ := X
  intro H locs ls hP hD hS hL
  obtain ⟨q, hq⟩ := List.getElem?_of_mem (show (7, Value.int x) ∈ xL 0 (a0 :: a1 :: a2 :: a3 :: a4 :: a5 :: a6 :: some (.int x) :: t) by simpa using xL_in (a0 :: a1 :: a2 :: a3 :: a4 :: a5 :: a6 :: some (.int x) :: t) 0 7 (.int x) rfl)
  exact lv_iinc (i := 7) B.1 B.2.1 d hL.1 hq hv (show 7 < c.maxLocals by rw [← hL.2.1]; simp) rfl (fun ls2 h2 => h H locs ls2 hP hD hS (hL.set (i := 7) rfl h2))
theorem x_iload8 (B : XB D X own cc ret nm nL et fr lo mc ms Rl Rx) (np : Nat) {a0 a1 a2 a3 a4 a5 a6 a7 : Option Value} {t : List (Option Value)} {x : Int32} (d : decode cc pc = .ok (.iload 8, 2)) (e : pc + 2 = np) (h : WX D X cs k n np (a0 :: a1 :: a2 :: a3 :: a4 :: a5 :: a6 :: a7 :: some (.int x) :: t) (.int x :: st)) : WX D X cs k n pc (a0 :: a1 :: a2 :: a3 :: a4 :: a5 :: a6 :: a7 :: some (.int x) :: t) st := by
  subst e
  obtain ⟨p, l, e0, R, s, m, args, below, meth, c, A, Q⟩ := X
  intro H locs ls hP hD hS hL
  exact lv_iload (i := 8) B.1 B.2.1 d (hL.get (i := 8) rfl) (h H locs ls hP hD hS hL)
theorem x_aload8 (B : XB D X own cc ret nm nL et fr lo mc ms Rl Rx) (np : Nat) {a0 a1 a2 a3 a4 a5 a6 a7 : Option Value} {t : List (Option Value)} {v : Value} (d : decode cc pc = .ok (.aload 8, 2)) (e : pc + 2 = np) (hv : xisR v = true) (h : WX D X cs k n np (a0 :: a1 :: a2 :: a3 :: a4 :: a5 :: a6 :: a7 :: some v :: t) (v :: st)) : WX D X cs k n pc (a0 :: a1 :: a2 :: a3 :: a4 :: a5 :: a6 :: a7 :: some v :: t) st := by
  subst e
  obtain ⟨p, l, e0, R, s, m, args, below, meth, c, A, Q⟩ := X
  intro H locs ls hP hD hS hL
  cases v with
  | ref q => exact lv_aload (i := 8) B.1 B.2.1 d (hL.get (i := 8) rfl) (h H locs ls hP hD hS hL)
  | null => exact lv_aloadN (i := 8) B.1 B.2.1 d (hL.get (i := 8) rfl) (h H locs ls hP hD hS hL)
  | _ => cases hv
theorem x_istore8 (B : XB D X own cc ret nm nL et fr lo mc ms Rl Rx) (np : Nat) {a0 a1 a2 a3 a4 a5 a6 a7 : Option Value} {t : List (Option Value)} {z : Option Value} {x : Int32} (d : decode cc pc = .ok (.istore 8, 2)) (e : pc + 2 = np) (h : WX D X cs k n np (a0 :: a1 :: a2 :: a3 :: a4 :: a5 :: a6 :: a7 :: some (.int x) :: t) st) : WX D X cs k n pc (a0 :: a1 :: a2 :: a3 :: a4 :: a5 :: a6 :: a7 :: z :: t) (.int x :: st) := by
  subst e
  obtain ⟨p, l, e0, R, s, m, args, below, meth, c, A, Q⟩ := X
  intro H locs ls hP hD hS hL
  exact lv_istore (i := 8) B.1 B.2.1 d hL.1 (show 8 < c.maxLocals by rw [← hL.2.1]; simp) rfl (fun ls2 h2 => h H locs ls2 hP hD hS (hL.set (i := 8) rfl h2))
theorem x_astore8 (B : XB D X own cc ret nm nL et fr lo mc ms Rl Rx) (np : Nat) {a0 a1 a2 a3 a4 a5 a6 a7 : Option Value} {t : List (Option Value)} {z : Option Value} {v : Value} (d : decode cc pc = .ok (.astore 8, 2)) (e : pc + 2 = np) (hv : xisR v = true) (h : WX D X cs k n np (a0 :: a1 :: a2 :: a3 :: a4 :: a5 :: a6 :: a7 :: some v :: t) st) : WX D X cs k n pc (a0 :: a1 :: a2 :: a3 :: a4 :: a5 :: a6 :: a7 :: z :: t) (v :: st) := by
  subst e
  obtain ⟨p, l, e0, R, s, m, args, below, meth, c, A, Q⟩ := X
  intro H locs ls hP hD hS hL
  cases v with
  | ref q => exact lv_astore (i := 8) B.1 B.2.1 d hL.1 (show 8 < c.maxLocals by rw [← hL.2.1]; simp) rfl (fun ls2 h2 => h H locs ls2 hP hD hS (hL.set (i := 8) rfl h2))
  | null => exact lv_astoreN (i := 8) B.1 B.2.1 d hL.1 (show 8 < c.maxLocals by rw [← hL.2.1]; simp) rfl (fun ls2 h2 => h H locs ls2 hP hD hS (hL.set (i := 8) rfl h2))
  | _ => cases hv
theorem x_iinc8 (B : XB D X own cc ret nm nL et fr lo mc ms Rl Rx) (np : Nat) {a0 a1 a2 a3 a4 a5 a6 a7 : Option Value} {t : List (Option Value)} {x : Int32} {j : Int} (d : decode cc pc = .ok (.iinc 8 j, 3)) (e : pc + 3 = np) {v : Int32} (hv : x + Int32.ofInt j = v) (h : WX D X cs k n np (a0 :: a1 :: a2 :: a3 :: a4 :: a5 :: a6 :: a7 :: some (.int v) :: t) st) : WX D X cs k n pc (a0 :: a1 :: a2 :: a3 :: a4 :: a5 :: a6 :: a7 :: some (.int x) :: t) st := by
  subst e
  obtain ⟨p, l, e0, R, s, m, args, below, meth, c, A, Q⟩ := X
  intro H locs ls hP hD hS hL
  obtain ⟨q, hq⟩ := List.getElem?_of_mem (show (8, Value.int x) ∈ xL 0 (a0 :: a1 :: a2 :: a3 :: a4 :: a5 :: a6 :: a7 :: some (.int x) :: t) by simpa using xL_in (a0 :: a1 :: a2 :: a3 :: a4 :: a5 :: a6 :: a7 :: some (.int x) :: t) 0 8 (.int x) rfl)
  exact lv_iinc (i := 8) B.1 B.2.1 d hL.1 hq hv (show 8 < c.maxLocals by rw [← hL.2.1]; simp) rfl (fun ls2 h2 => h H locs ls2 hP hD hS (hL.set (i := 8) rfl h2))
theorem x_iload9 (B : XB D X own cc ret nm nL et fr lo mc ms Rl Rx) (np : Nat) {a0 a1 a2 a3 a4 a5 a6 a7 a8 : Option Value} {t : List (Option Value)} {x : Int32} (d : decode cc pc = .ok (.iload 9, 2)) (e : pc + 2 = np) (h : WX D X cs k n np (a0 :: a1 :: a2 :: a3 :: a4 :: a5 :: a6 :: a7 :: a8 :: some (.int x) :: t) (.int x :: st)) : WX D X cs k n pc (a0 :: a1 :: a2 :: a3 :: a4 :: a5 :: a6 :: a7 :: a8 :: some (.int x) :: t) st := by
  subst e
  obtain ⟨p, l, e0, R, s, m, args, below, meth, c, A, Q⟩ := X
  intro H locs ls hP hD hS hL
  exact lv_iload (i := 9) B.1 B.2.1 d (hL.get (i := 9) rfl) (h H locs ls hP hD hS hL)
theorem x_aload9 (B : XB D X own cc ret nm nL et fr lo mc ms Rl Rx) (np : Nat) {a0 a1 a2 a3 a4 a5 a6 a7 a8 : Option Value} {t : List (Option Value)} {v : Value} (d : decode cc pc = .ok (.aload 9, 2)) (e : pc + 2 = np) (hv : xisR v = true) (h : WX D X cs k n np (a0 :: a1 :: a2 :: a3 :: a4 :: a5 :: a6 :: a7 :: a8 :: some v :: t) (v :: st)) : WX D X cs k n pc (a0 :: a1 :: a2 :: a3 :: a4 :: a5 :: a6 :: a7 :: a8 :: some v :: t) st := by
  subst e
  obtain ⟨p, l, e0, R, s, m, args, below, meth, c, A, Q⟩ := X
  intro H locs ls hP hD hS hL
  cases v with
  | ref q => exact lv_aload (i := 9) B.1 B.2.1 d (hL.get (i := 9) rfl) (h H locs ls hP hD hS hL)
  | null => exact lv_aloadN (i := 9) B.1 B.2.1 d (hL.get (i := 9) rfl) (h H locs ls hP hD hS hL)
  | _ => cases hv
theorem x_istore9 (B : XB D X own cc ret nm nL et fr lo mc ms Rl Rx) (np : Nat) {a0 a1 a2 a3 a4 a5 a6 a7 a8 : Option Value} {t : List (Option Value)} {z : Option Value} {x : Int32} (d : decode cc pc = .ok (.istore 9, 2)) (e : pc + 2 = np) (h : WX D X cs k n np (a0 :: a1 :: a2 :: a3 :: a4 :: a5 :: a6 :: a7 :: a8 :: some (.int x) :: t) st) : WX D X cs k n pc (a0 :: a1 :: a2 :: a3 :: a4 :: a5 :: a6 :: a7 :: a8 :: z :: t) (.int x :: st) := by
  subst e
  obtain ⟨p, l, e0, R, s, m, args, below, meth, c, A, Q⟩ := X
  intro H locs ls hP hD hS hL
  exact lv_istore (i := 9) B.1 B.2.1 d hL.1 (show 9 < c.maxLocals by rw [← hL.2.1]; simp) rfl (fun ls2 h2 => h H locs ls2 hP hD hS (hL.set (i := 9) rfl h2))
theorem x_astore9 (B : XB D X own cc ret nm nL et fr lo mc ms Rl Rx) (np : Nat) {a0 a1 a2 a3 a4 a5 a6 a7 a8 : Option Value} {t : List (Option Value)} {z : Option Value} {v : Value} (d : decode cc pc = .ok (.astore 9, 2)) (e : pc + 2 = np) (hv : xisR v = true) (h : WX D X cs k n np (a0 :: a1 :: a2 :: a3 :: a4 :: a5 :: a6 :: a7 :: a8 :: some v :: t) st) : WX D X cs k n pc (a0 :: a1 :: a2 :: a3 :: a4 :: a5 :: a6 :: a7 :: a8 :: z :: t) (v :: st) := by
  subst e
  obtain ⟨p, l, e0, R, s, m, args, below, meth, c, A, Q⟩ := X
  intro H locs ls hP hD hS hL
  cases v with
  | ref q => exact lv_astore (i := 9) B.1 B.2.1 d hL.1 (show 9 < c.maxLocals by rw [← hL.2.1]; simp) rfl (fun ls2 h2 => h H locs ls2 hP hD hS (hL.set (i := 9) rfl h2))
  | null => exact lv_astoreN (i := 9) B.1 B.2.1 d hL.1 (show 9 < c.maxLocals by rw [← hL.2.1]; simp) rfl (fun ls2 h2 => h H locs ls2 hP hD hS (hL.set (i := 9) rfl h2))
  | _ => cases hv
theorem x_iinc9 (B : XB D X own cc ret nm nL et fr lo mc ms Rl Rx) (np : Nat) {a0 a1 a2 a3 a4 a5 a6 a7 a8 : Option Value} {t : List (Option Value)} {x : Int32} {j : Int} (d : decode cc pc = .ok (.iinc 9 j, 3)) (e : pc + 3 = np) {v : Int32} (hv : x + Int32.ofInt j = v) (h : WX D X cs k n np (a0 :: a1 :: a2 :: a3 :: a4 :: a5 :: a6 :: a7 :: a8 :: some (.int v) :: t) st) : WX D X cs k n pc (a0 :: a1 :: a2 :: a3 :: a4 :: a5 :: a6 :: a7 :: a8 :: some (.int x) :: t) st := by
  subst e
  obtain ⟨p, l, e0, R, s, m, args, below, meth, c, A, Q⟩ := X
  intro H locs ls hP hD hS hL
  obtain ⟨q, hq⟩ := List.getElem?_of_mem (show (9, Value.int x) ∈ xL 0 (a0 :: a1 :: a2 :: a3 :: a4 :: a5 :: a6 :: a7 :: a8 :: some (.int x) :: t) by simpa using xL_in (a0 :: a1 :: a2 :: a3 :: a4 :: a5 :: a6 :: a7 :: a8 :: some (.int x) :: t) 0 9 (.int x) rfl)
  exact lv_iinc (i := 9) B.1 B.2.1 d hL.1 hq hv (show 9 < c.maxLocals by rw [← hL.2.1]; simp) rfl (fun ls2 h2 => h H locs ls2 hP hD hS (hL.set (i := 9) rfl h2))
end XROWS
