/-! V ROWS: one an instruction (printed by wip gen/rows.py) -/
set_option maxRecDepth 100000
def g_lk : List (Nat × Value) → Nat → Option Value
  | [], _ => none
  | (j, v) :: t, i => match Nat.beq j i with
    | true => some v
    | false => g_lk t i
def g_st1 (i : Nat) (v : Value) (L : List (Nat × Value)) : List (Nat × Value) := (i, v) :: L.filter (fun q => !(q.1 == i) && !(q.1 + 1 == i && q.2.category == 2))
def g_st2 (i : Nat) (v : Value) (L : List (Nat × Value)) : List (Nat × Value) := (i, v) :: L.filter (fun q => !(q.1 == i) && (!(q.1 == i + 1) && !(q.1 + 1 == i && q.2.category == 2)))
theorem g_lk_mem {i : Nat} {v : Value} : ∀ {L : List (Nat × Value)}, g_lk L i = some v → (i, v) ∈ L
  | [], h => nomatch h
  | (j, w) :: t, h => by
    unfold g_lk at h
    cases hb : Nat.beq j i with
    | true =>
      rw [hb] at h
      have e1 := Nat.eq_of_beq_eq_true hb
      cases h
      rw [e1]
      exact List.mem_cons_self
    | false =>
      rw [hb] at h
      exact List.mem_cons_of_mem _ (g_lk_mem h)
theorem g_lk_at {ls : Array Slot} {nL i : Nat} {v : Value} {L : List (Nat × Value)} (h : lv_has ls nL L) (hk : g_lk L i = some v) : ls[i]? = some (.val v) := h.2.2 _ (g_lk_mem hk)
/-- fewer locals, by their places -/
def g_subL : List (Nat × Value) → List (Nat × Value) → Prop
  | [], _ => True
  | (i, v) :: t, L => g_lk L i = some v ∧ g_subL t L
theorem g_subL_has {ls : Array Slot} {nL : Nat} {L : List (Nat × Value)} (h : lv_has ls nL L) : ∀ {L' : List (Nat × Value)}, g_subL L' L → lv_has ls nL L'
  | [], _ => ⟨h.1, h.2.1, fun q hq => nomatch hq⟩
  | (i, v) :: t, hs => ⟨h.1, h.2.1, fun q hq => by
      rcases List.mem_cons.mp hq with e | e
      · rw [e]; exact g_lk_at h hs.1
      · exact (g_subL_has h hs.2).2.2 q e⟩
section VR
variable {l : Launch} {E : g_E} {M : g_M} {d : Nat} {P : Outcome → g_G → Prop} {pc : Nat} {L : List (Nat × Value)} {st : List Value} {G : g_G}
theorem V_sub {L' : List (Nat × Value)} (h : g_subL L' L) (k : V l E M d P pc L' st G) : V l E M d P pc L st G :=
  fun p e R s m args below meth c locs ls H C hR h1 h2 h3 hl => k p e R s m args below meth c locs ls H C hR h1 h2 h3 (g_subL_has hl h)
theorem V_iadd {x y : Int32} (hd : decode M.2.1 pc = .ok (.iadd, 1))  (k : V l E M d P (pc + 1) L (.int (x + y) :: st) G) : V l E M d P pc L (.int y :: .int x :: st) G :=
  fun p e R s m args below meth c locs ls H C hR h1 h2 h3 hl => lv_iadd C.x C.b hd  (k p e R s m args below meth c locs ls H C hR h1 h2 h3 hl)
theorem V_isub {x y : Int32} (hd : decode M.2.1 pc = .ok (.isub, 1))  (k : V l E M d P (pc + 1) L (.int (x - y) :: st) G) : V l E M d P pc L (.int y :: .int x :: st) G :=
  fun p e R s m args below meth c locs ls H C hR h1 h2 h3 hl => lv_isub C.x C.b hd  (k p e R s m args below meth c locs ls H C hR h1 h2 h3 hl)
theorem V_imul {x y : Int32} (hd : decode M.2.1 pc = .ok (.imul, 1))  (k : V l E M d P (pc + 1) L (.int (x * y) :: st) G) : V l E M d P pc L (.int y :: .int x :: st) G :=
  fun p e R s m args below meth c locs ls H C hR h1 h2 h3 hl => lv_imul C.x C.b hd  (k p e R s m args below meth c locs ls H C hR h1 h2 h3 hl)
theorem V_iand {x y : Int32} (hd : decode M.2.1 pc = .ok (.iand, 1))  (k : V l E M d P (pc + 1) L (.int (x &&& y) :: st) G) : V l E M d P pc L (.int y :: .int x :: st) G :=
  fun p e R s m args below meth c locs ls H C hR h1 h2 h3 hl => lv_iand C.x C.b hd  (k p e R s m args below meth c locs ls H C hR h1 h2 h3 hl)
theorem V_ior {x y : Int32} (hd : decode M.2.1 pc = .ok (.ior, 1))  (k : V l E M d P (pc + 1) L (.int (x ||| y) :: st) G) : V l E M d P pc L (.int y :: .int x :: st) G :=
  fun p e R s m args below meth c locs ls H C hR h1 h2 h3 hl => lv_ior C.x C.b hd  (k p e R s m args below meth c locs ls H C hR h1 h2 h3 hl)
theorem V_ixor {x y : Int32} (hd : decode M.2.1 pc = .ok (.ixor, 1))  (k : V l E M d P (pc + 1) L (.int (x ^^^ y) :: st) G) : V l E M d P pc L (.int y :: .int x :: st) G :=
  fun p e R s m args below meth c locs ls H C hR h1 h2 h3 hl => lv_ixor C.x C.b hd  (k p e R s m args below meth c locs ls H C hR h1 h2 h3 hl)
theorem V_ishl {x y : Int32} (hd : decode M.2.1 pc = .ok (.ishl, 1))  (k : V l E M d P (pc + 1) L (.int (x <<< (y &&& 31)) :: st) G) : V l E M d P pc L (.int y :: .int x :: st) G :=
  fun p e R s m args below meth c locs ls H C hR h1 h2 h3 hl => lv_ishl C.x C.b hd  (k p e R s m args below meth c locs ls H C hR h1 h2 h3 hl)
theorem V_ishr {x y : Int32} (hd : decode M.2.1 pc = .ok (.ishr, 1))  (k : V l E M d P (pc + 1) L (.int (x >>> (y &&& 31)) :: st) G) : V l E M d P pc L (.int y :: .int x :: st) G :=
  fun p e R s m args below meth c locs ls H C hR h1 h2 h3 hl => lv_ishr C.x C.b hd  (k p e R s m args below meth c locs ls H C hR h1 h2 h3 hl)
theorem V_idiv {x y : Int32} (hd : decode M.2.1 pc = .ok (.idiv, 1)) (hne : ¬ y = 0) (k : V l E M d P (pc + 1) L (.int (x / y) :: st) G) : V l E M d P pc L (.int y :: .int x :: st) G :=
  fun p e R s m args below meth c locs ls H C hR h1 h2 h3 hl => lv_idiv C.x C.b hd hne (k p e R s m args below meth c locs ls H C hR h1 h2 h3 hl)
theorem V_irem {x y : Int32} (hd : decode M.2.1 pc = .ok (.irem, 1)) (hne : ¬ y = 0) (k : V l E M d P (pc + 1) L (.int (x - x / y * y) :: st) G) : V l E M d P pc L (.int y :: .int x :: st) G :=
  fun p e R s m args below meth c locs ls H C hR h1 h2 h3 hl => lv_irem C.x C.b hd hne (k p e R s m args below meth c locs ls H C hR h1 h2 h3 hl)
theorem V_ineg {x : Int32} (hd : decode M.2.1 pc = .ok (.ineg, 1))  (k : V l E M d P (pc + 1) L (.int (-x) :: st) G) : V l E M d P pc L (.int x :: st) G :=
  fun p e R s m args below meth c locs ls H C hR h1 h2 h3 hl => lv_ineg C.x C.b hd  (k p e R s m args below meth c locs ls H C hR h1 h2 h3 hl)
theorem V_iushr {x y : Int32} (hd : decode M.2.1 pc = .ok (.iushr, 1))  (k : V l E M d P (pc + 1) L (.int ((x.toUInt32 >>> (y.toUInt32 &&& Int32.toUInt32 31)).toInt32) :: st) G) : V l E M d P pc L (.int y :: .int x :: st) G :=
  fun p e R s m args below meth c locs ls H C hR h1 h2 h3 hl => lv_iushr C.x C.b hd rfl (k p e R s m args below meth c locs ls H C hR h1 h2 h3 hl)
theorem V_ladd {x y : Int64} (hd : decode M.2.1 pc = .ok (.ladd, 1))  (k : V l E M d P (pc + 1) L (.long (x + y) :: st) G) : V l E M d P pc L (.long y :: .long x :: st) G :=
  fun p e R s m args below meth c locs ls H C hR h1 h2 h3 hl => lv_ladd C.x C.b hd  (k p e R s m args below meth c locs ls H C hR h1 h2 h3 hl)
theorem V_lsub {x y : Int64} (hd : decode M.2.1 pc = .ok (.lsub, 1))  (k : V l E M d P (pc + 1) L (.long (x - y) :: st) G) : V l E M d P pc L (.long y :: .long x :: st) G :=
  fun p e R s m args below meth c locs ls H C hR h1 h2 h3 hl => lv_lsub C.x C.b hd  (k p e R s m args below meth c locs ls H C hR h1 h2 h3 hl)
theorem V_lmul {x y : Int64} (hd : decode M.2.1 pc = .ok (.lmul, 1))  (k : V l E M d P (pc + 1) L (.long (x * y) :: st) G) : V l E M d P pc L (.long y :: .long x :: st) G :=
  fun p e R s m args below meth c locs ls H C hR h1 h2 h3 hl => lv_lmul C.x C.b hd  (k p e R s m args below meth c locs ls H C hR h1 h2 h3 hl)
theorem V_ldiv {x y : Int64} (hd : decode M.2.1 pc = .ok (.ldiv, 1)) (hne : ¬ y = 0) (k : V l E M d P (pc + 1) L (.long (x / y) :: st) G) : V l E M d P pc L (.long y :: .long x :: st) G :=
  fun p e R s m args below meth c locs ls H C hR h1 h2 h3 hl => lv_ldiv C.x C.b hd hne (k p e R s m args below meth c locs ls H C hR h1 h2 h3 hl)
theorem V_i2l {x : Int32} (hd : decode M.2.1 pc = .ok (.i2l, 1))  (k : V l E M d P (pc + 1) L (.long (x.toInt64) :: st) G) : V l E M d P pc L (.int x :: st) G :=
  fun p e R s m args below meth c locs ls H C hR h1 h2 h3 hl => lv_i2l C.x C.b hd rfl (k p e R s m args below meth c locs ls H C hR h1 h2 h3 hl)
theorem V_l2i {x : Int64} (hd : decode M.2.1 pc = .ok (.l2i, 1))  (k : V l E M d P (pc + 1) L (.int (x.toInt32) :: st) G) : V l E M d P pc L (.long x :: st) G :=
  fun p e R s m args below meth c locs ls H C hR h1 h2 h3 hl => lv_l2i C.x C.b hd rfl (k p e R s m args below meth c locs ls H C hR h1 h2 h3 hl)
theorem V_i2b {x : Int32} (hd : decode M.2.1 pc = .ok (.i2b, 1))  (k : V l E M d P (pc + 1) L (.int (x.toInt8.toInt32) :: st) G) : V l E M d P pc L (.int x :: st) G :=
  fun p e R s m args below meth c locs ls H C hR h1 h2 h3 hl => lv_i2b C.x C.b hd rfl (k p e R s m args below meth c locs ls H C hR h1 h2 h3 hl)
theorem V_i2c {x : Int32} (hd : decode M.2.1 pc = .ok (.i2c, 1))  (k : V l E M d P (pc + 1) L (.int ((x.toUInt32 % 65536).toInt32) :: st) G) : V l E M d P pc L (.int x :: st) G :=
  fun p e R s m args below meth c locs ls H C hR h1 h2 h3 hl => lv_i2c C.x C.b hd rfl (k p e R s m args below meth c locs ls H C hR h1 h2 h3 hl)
theorem V_i2f {x : Int32} (hd : decode M.2.1 pc = .ok (.i2f, 1))  (k : V l E M d P (pc + 1) L (.float (FP.i2f x) :: st) G) : V l E M d P pc L (.int x :: st) G :=
  fun p e R s m args below meth c locs ls H C hR h1 h2 h3 hl => lv_i2f C.x C.b hd  (k p e R s m args below meth c locs ls H C hR h1 h2 h3 hl)
theorem V_i2d {x : Int32} (hd : decode M.2.1 pc = .ok (.i2d, 1))  (k : V l E M d P (pc + 1) L (.double (FP.i2d x) :: st) G) : V l E M d P pc L (.int x :: st) G :=
  fun p e R s m args below meth c locs ls H C hR h1 h2 h3 hl => lv_i2d C.x C.b hd  (k p e R s m args below meth c locs ls H C hR h1 h2 h3 hl)
theorem V_f2d {x : UInt32} (hd : decode M.2.1 pc = .ok (.f2d, 1)) (hne : vf_n64 (FP.f2d x)) (k : V l E M d P (pc + 1) L (.double (FP.f2d x) :: st) G) : V l E M d P pc L (.float x :: st) G :=
  fun p e R s m args below meth c locs ls H C hR h1 h2 h3 hl => lv_f2d C.x C.b hd hne (k p e R s m args below meth c locs ls H C hR h1 h2 h3 hl)
theorem V_fdiv {x y : UInt32} (hd : decode M.2.1 pc = .ok (.fdiv, 1)) (hne : vf_n32 (FP.fdiv x y)) (k : V l E M d P (pc + 1) L (.float (FP.fdiv x y) :: st) G) : V l E M d P pc L (.float y :: .float x :: st) G :=
  fun p e R s m args below meth c locs ls H C hR h1 h2 h3 hl => lv_fdiv C.x C.b hd hne (k p e R s m args below meth c locs ls H C hR h1 h2 h3 hl)
theorem V_ddiv {x y : UInt64} (hd : decode M.2.1 pc = .ok (.ddiv, 1)) (hne : vf_n64 (FP.ddiv x y)) (k : V l E M d P (pc + 1) L (.double (FP.ddiv x y) :: st) G) : V l E M d P pc L (.double y :: .double x :: st) G :=
  fun p e R s m args below meth c locs ls H C hR h1 h2 h3 hl => lv_ddiv C.x C.b hd hne (k p e R s m args below meth c locs ls H C hR h1 h2 h3 hl)
theorem V_fcmp {x y : UInt32} {op : CmpOp} (hd : decode M.2.1 pc = .ok (.fcmp op, 1))  (k : V l E M d P (pc + 1) L (.int (Op.cmpValue (FP.fcmp x y) op) :: st) G) : V l E M d P pc L (.float y :: .float x :: st) G :=
  fun p e R s m args below meth c locs ls H C hR h1 h2 h3 hl => lv_fcmp C.x C.b hd  (k p e R s m args below meth c locs ls H C hR h1 h2 h3 hl)
theorem V_dcmp {x y : UInt64} {op : CmpOp} (hd : decode M.2.1 pc = .ok (.dcmp op, 1))  (k : V l E M d P (pc + 1) L (.int (Op.cmpValue (FP.dcmp x y) op) :: st) G) : V l E M d P pc L (.double y :: .double x :: st) G :=
  fun p e R s m args below meth c locs ls H C hR h1 h2 h3 hl => lv_dcmp C.x C.b hd  (k p e R s m args below meth c locs ls H C hR h1 h2 h3 hl)
theorem V_fconst0  (hd : decode M.2.1 pc = .ok (.fconst 0, 1))  (k : V l E M d P (pc + 1) L (.float FP.fconst0 :: st) G) : V l E M d P pc L (st) G :=
  fun p e R s m args below meth c locs ls H C hR h1 h2 h3 hl => lv_fconst0 C.x C.b hd  (k p e R s m args below meth c locs ls H C hR h1 h2 h3 hl)
theorem V_dconst0  (hd : decode M.2.1 pc = .ok (.dconst 0, 1))  (k : V l E M d P (pc + 1) L (.double FP.dconst0 :: st) G) : V l E M d P pc L (st) G :=
  fun p e R s m args below meth c locs ls H C hR h1 h2 h3 hl => lv_dconst0 C.x C.b hd  (k p e R s m args below meth c locs ls H C hR h1 h2 h3 hl)
theorem V_iconst {n : Int} (hd : decode M.2.1 pc = .ok (.iconst n, 1))  (k : V l E M d P (pc + 1) L (.int (Int32.ofInt n) :: st) G) : V l E M d P pc L (st) G :=
  fun p e R s m args below meth c locs ls H C hR h1 h2 h3 hl => lv_iconst C.x C.b hd rfl (k p e R s m args below meth c locs ls H C hR h1 h2 h3 hl)
theorem V_bipush {n : Int} (hd : decode M.2.1 pc = .ok (.bipush n, 2))  (k : V l E M d P (pc + 2) L (.int ((Int8.ofInt n).toInt32) :: st) G) : V l E M d P pc L (st) G :=
  fun p e R s m args below meth c locs ls H C hR h1 h2 h3 hl => lv_bipush C.x C.b hd rfl (k p e R s m args below meth c locs ls H C hR h1 h2 h3 hl)
theorem V_sipush {n : Int} (hd : decode M.2.1 pc = .ok (.sipush n, 3))  (k : V l E M d P (pc + 3) L (.int ((Int16.ofInt n).toInt32) :: st) G) : V l E M d P pc L (st) G :=
  fun p e R s m args below meth c locs ls H C hR h1 h2 h3 hl => lv_sipush C.x C.b hd rfl (k p e R s m args below meth c locs ls H C hR h1 h2 h3 hl)
theorem V_lconst {n : Fin 2} (hd : decode M.2.1 pc = .ok (.lconst n, 1))  (k : V l E M d P (pc + 1) L (.long (Int64.ofNat (n : Nat)) :: st) G) : V l E M d P pc L (st) G :=
  fun p e R s m args below meth c locs ls H C hR h1 h2 h3 hl => lv_lconst C.x C.b hd rfl (k p e R s m args below meth c locs ls H C hR h1 h2 h3 hl)
theorem V_iconstv {n : Int} (v : Int32) (hd : decode M.2.1 pc = .ok (.iconst n, 1)) (hv : Int32.ofInt n = v) (k : V l E M d P (pc + 1) L (.int v :: st) G) : V l E M d P pc L st G :=
  fun p e R s m args below meth c locs ls H C hR h1 h2 h3 hl => lv_iconst C.x C.b hd hv (k p e R s m args below meth c locs ls H C hR h1 h2 h3 hl)
theorem V_bipushv {n : Int} (v : Int32) (hd : decode M.2.1 pc = .ok (.bipush n, 2)) (hv : (Int8.ofInt n).toInt32 = v) (k : V l E M d P (pc + 2) L (.int v :: st) G) : V l E M d P pc L st G :=
  fun p e R s m args below meth c locs ls H C hR h1 h2 h3 hl => lv_bipush C.x C.b hd hv (k p e R s m args below meth c locs ls H C hR h1 h2 h3 hl)
theorem V_sipushv {n : Int} (v : Int32) (hd : decode M.2.1 pc = .ok (.sipush n, 3)) (hv : (Int16.ofInt n).toInt32 = v) (k : V l E M d P (pc + 3) L (.int v :: st) G) : V l E M d P pc L st G :=
  fun p e R s m args below meth c locs ls H C hR h1 h2 h3 hl => lv_sipush C.x C.b hd hv (k p e R s m args below meth c locs ls H C hR h1 h2 h3 hl)
theorem V_null  (hd : decode M.2.1 pc = .ok (.aconst_null, 1))  (k : V l E M d P (pc + 1) L (.null :: st) G) : V l E M d P pc L (st) G :=
  fun p e R s m args below meth c locs ls H C hR h1 h2 h3 hl => lv_null C.x C.b hd  (k p e R s m args below meth c locs ls H C hR h1 h2 h3 hl)
theorem V_dup {v : Value} (hd : decode M.2.1 pc = .ok (.dup, 1)) (hc : v.category = 1) (k : V l E M d P (pc + 1) L (v :: v :: st) G) : V l E M d P pc L (v :: st) G :=
  fun p e R s m args below meth c locs ls H C hR h1 h2 h3 hl => lv_dup C.x C.b hd hc (k p e R s m args below meth c locs ls H C hR h1 h2 h3 hl)
theorem V_pop {v : Value} (hd : decode M.2.1 pc = .ok (.pop, 1)) (hc : v.category = 1) (k : V l E M d P (pc + 1) L (st) G) : V l E M d P pc L (v :: st) G :=
  fun p e R s m args below meth c locs ls H C hR h1 h2 h3 hl => lv_pop C.x C.b hd hc (k p e R s m args below meth c locs ls H C hR h1 h2 h3 hl)
theorem V_dup_x1 {v w : Value} (hd : decode M.2.1 pc = .ok (.dup_x1, 1)) (hc : v.category = 1) (hc2 : w.category = 1) (k : V l E M d P (pc + 1) L (v :: w :: v :: st) G) : V l E M d P pc L (v :: w :: st) G :=
  fun p e R s m args below meth c locs ls H C hR h1 h2 h3 hl => lv_dup_x1 C.x C.b hd hc hc2 (k p e R s m args below meth c locs ls H C hR h1 h2 h3 hl)
theorem V_dup2 {v w : Value} (hd : decode M.2.1 pc = .ok (.dup2, 1)) (hc : v.category = 1) (hc2 : w.category = 1) (k : V l E M d P (pc + 1) L (v :: w :: v :: w :: st) G) : V l E M d P pc L (v :: w :: st) G :=
  fun p e R s m args below meth c locs ls H C hR h1 h2 h3 hl => lv_dup2_11 C.x C.b hd hc hc2 (k p e R s m args below meth c locs ls H C hR h1 h2 h3 hl)
theorem V_iload_n {j : Fin 4} {x : Int32} (hd : decode M.2.1 pc = .ok (.iload_n j, 1)) (hk : g_lk L (j : Nat) = some (.int x)) (k : V l E M d P (pc + 1) L (.int x :: st) G) : V l E M d P pc L st G :=
  fun p e R s m args below meth c locs ls H C hR h1 h2 h3 hl => lv_iload_n C.x C.b hd rfl (g_lk_at hl hk) (k p e R s m args below meth c locs ls H C hR h1 h2 h3 hl)
theorem V_iload {i : Nat} {x : Int32} (hd : decode M.2.1 pc = .ok (.iload i, 2)) (hk : g_lk L i = some (.int x)) (k : V l E M d P (pc + 2) L (.int x :: st) G) : V l E M d P pc L st G :=
  fun p e R s m args below meth c locs ls H C hR h1 h2 h3 hl => lv_iload C.x C.b hd (g_lk_at hl hk) (k p e R s m args below meth c locs ls H C hR h1 h2 h3 hl)
theorem V_lload_n {j : Fin 4} {x : Int64} (hd : decode M.2.1 pc = .ok (.lload_n j, 1)) (hk : g_lk L (j : Nat) = some (.long x)) (k : V l E M d P (pc + 1) L (.long x :: st) G) : V l E M d P pc L st G :=
  fun p e R s m args below meth c locs ls H C hR h1 h2 h3 hl => lv_lload_n C.x C.b hd rfl (g_lk_at hl hk) (k p e R s m args below meth c locs ls H C hR h1 h2 h3 hl)
theorem V_lload {i : Nat} {x : Int64} (hd : decode M.2.1 pc = .ok (.lload i, 2)) (hk : g_lk L i = some (.long x)) (k : V l E M d P (pc + 2) L (.long x :: st) G) : V l E M d P pc L st G :=
  fun p e R s m args below meth c locs ls H C hR h1 h2 h3 hl => lv_lload C.x C.b hd (g_lk_at hl hk) (k p e R s m args below meth c locs ls H C hR h1 h2 h3 hl)
theorem V_fload {i : Nat} {x : UInt32} (hd : decode M.2.1 pc = .ok (.fload i, 2)) (hk : g_lk L i = some (.float x)) (k : V l E M d P (pc + 2) L (.float x :: st) G) : V l E M d P pc L st G :=
  fun p e R s m args below meth c locs ls H C hR h1 h2 h3 hl => lv_fload C.x C.b hd (g_lk_at hl hk) (k p e R s m args below meth c locs ls H C hR h1 h2 h3 hl)
theorem V_dload_n {j : Fin 4} {x : UInt64} (hd : decode M.2.1 pc = .ok (.dload_n j, 1)) (hk : g_lk L (j : Nat) = some (.double x)) (k : V l E M d P (pc + 1) L (.double x :: st) G) : V l E M d P pc L st G :=
  fun p e R s m args below meth c locs ls H C hR h1 h2 h3 hl => lv_dload_n C.x C.b hd rfl (g_lk_at hl hk) (k p e R s m args below meth c locs ls H C hR h1 h2 h3 hl)
theorem V_dload {i : Nat} {x : UInt64} (hd : decode M.2.1 pc = .ok (.dload i, 2)) (hk : g_lk L i = some (.double x)) (k : V l E M d P (pc + 2) L (.double x :: st) G) : V l E M d P pc L st G :=
  fun p e R s m args below meth c locs ls H C hR h1 h2 h3 hl => lv_dload C.x C.b hd (g_lk_at hl hk) (k p e R s m args below meth c locs ls H C hR h1 h2 h3 hl)
theorem V_aload_n {j : Fin 4} {v : Value} (hd : decode M.2.1 pc = .ok (.aload_n j, 1)) (hk : g_lk L (j : Nat) = some v) (hv : (∃ a, v = .ref a) ∨ v = .null) (k : V l E M d P (pc + 1) L (v :: st) G) : V l E M d P pc L st G := by
  rcases hv with ⟨a, rfl⟩ | rfl
  · exact fun p e R s m args below meth c locs ls H C hR h1 h2 h3 hl => lv_aload_n C.x C.b hd rfl (g_lk_at hl hk) (k p e R s m args below meth c locs ls H C hR h1 h2 h3 hl)
  · exact fun p e R s m args below meth c locs ls H C hR h1 h2 h3 hl => lv_aload_nN C.x C.b hd rfl (g_lk_at hl hk) (k p e R s m args below meth c locs ls H C hR h1 h2 h3 hl)
theorem V_aload {i : Nat} {v : Value} (hd : decode M.2.1 pc = .ok (.aload i, 2)) (hk : g_lk L i = some v) (hv : (∃ a, v = .ref a) ∨ v = .null) (k : V l E M d P (pc + 2) L (v :: st) G) : V l E M d P pc L st G := by
  rcases hv with ⟨a, rfl⟩ | rfl
  · exact fun p e R s m args below meth c locs ls H C hR h1 h2 h3 hl => lv_aload C.x C.b hd (g_lk_at hl hk) (k p e R s m args below meth c locs ls H C hR h1 h2 h3 hl)
  · exact fun p e R s m args below meth c locs ls H C hR h1 h2 h3 hl => lv_aloadN C.x C.b hd (g_lk_at hl hk) (k p e R s m args below meth c locs ls H C hR h1 h2 h3 hl)
theorem g_rv {a : Nat} : (∃ b, Value.ref a = .ref b) ∨ Value.ref a = .null := Or.inl ⟨a, rfl⟩
theorem g_nv : (∃ b, Value.null = .ref b) ∨ Value.null = .null := Or.inr rfl
theorem g_rfv (r : Option Nat) : (∃ b, va_rf r = .ref b) ∨ va_rf r = .null := match r with
  | none => Or.inr rfl
  | some a => Or.inl ⟨a, rfl⟩
theorem V_istore_n {j : Fin 4} {x : Int32} (hd : decode M.2.1 pc = .ok (.istore_n j, 1)) (hn : (j : Nat) < M.2.2.1) (k : V l E M d P (pc + 1) (g_st1 (j : Nat) (.int x) L) st G) : V l E M d P pc L (.int x :: st) G :=
  fun p e R s m args below meth c locs ls H C hR h1 h2 h3 hl => lv_istore_n C.x C.b hd rfl hl hn rfl (fun ls' hl' => (k p e R s m args below meth c locs _ H C hR h1 h2 h3 hl'))
theorem V_istore {i : Nat} {x : Int32} (hd : decode M.2.1 pc = .ok (.istore i, 2)) (hn : i < M.2.2.1) (k : V l E M d P (pc + 2) (g_st1 i (.int x) L) st G) : V l E M d P pc L (.int x :: st) G :=
  fun p e R s m args below meth c locs ls H C hR h1 h2 h3 hl => lv_istore C.x C.b hd hl hn rfl (fun ls' hl' => (k p e R s m args below meth c locs _ H C hR h1 h2 h3 hl'))
theorem V_lstore_n {j : Fin 4} {x : Int64} (hd : decode M.2.1 pc = .ok (.lstore_n j, 1)) (hn : (j : Nat) + 1 < M.2.2.1) (k : V l E M d P (pc + 1) (g_st2 (j : Nat) (.long x) L) st G) : V l E M d P pc L (.long x :: st) G :=
  fun p e R s m args below meth c locs ls H C hR h1 h2 h3 hl => lv_lstore_n C.x C.b hd rfl hl hn rfl (fun ls' hl' => (k p e R s m args below meth c locs _ H C hR h1 h2 h3 hl'))
theorem V_lstore {i : Nat} {x : Int64} (hd : decode M.2.1 pc = .ok (.lstore i, 2)) (hn : i + 1 < M.2.2.1) (k : V l E M d P (pc + 2) (g_st2 i (.long x) L) st G) : V l E M d P pc L (.long x :: st) G :=
  fun p e R s m args below meth c locs ls H C hR h1 h2 h3 hl => lv_lstore C.x C.b hd hl hn rfl (fun ls' hl' => (k p e R s m args below meth c locs _ H C hR h1 h2 h3 hl'))
theorem V_fstore {i : Nat} {x : UInt32} (hd : decode M.2.1 pc = .ok (.fstore i, 2)) (hn : i < M.2.2.1) (k : V l E M d P (pc + 2) (g_st1 i (.float x) L) st G) : V l E M d P pc L (.float x :: st) G :=
  fun p e R s m args below meth c locs ls H C hR h1 h2 h3 hl => lv_fstore C.x C.b hd hl hn rfl (fun ls' hl' => (k p e R s m args below meth c locs _ H C hR h1 h2 h3 hl'))
theorem V_dstore {i : Nat} {x : UInt64} (hd : decode M.2.1 pc = .ok (.dstore i, 2)) (hn : i + 1 < M.2.2.1) (k : V l E M d P (pc + 2) (g_st2 i (.double x) L) st G) : V l E M d P pc L (.double x :: st) G :=
  fun p e R s m args below meth c locs ls H C hR h1 h2 h3 hl => lv_dstore C.x C.b hd hl hn rfl (fun ls' hl' => (k p e R s m args below meth c locs _ H C hR h1 h2 h3 hl'))
theorem V_astore_n {j : Fin 4} {v : Value} (hd : decode M.2.1 pc = .ok (.astore_n j, 1)) (hv : (∃ a, v = .ref a) ∨ v = .null) (hn : (j : Nat) < M.2.2.1) (k : V l E M d P (pc + 1) (g_st1 (j : Nat) v L) st G) : V l E M d P pc L (v :: st) G := by
  rcases hv with ⟨a, rfl⟩ | rfl
  · exact fun p e R s m args below meth c locs ls H C hR h1 h2 h3 hl => lv_astore_n C.x C.b hd rfl hl hn rfl (fun ls' hl' => (k p e R s m args below meth c locs _ H C hR h1 h2 h3 hl'))
  · exact fun p e R s m args below meth c locs ls H C hR h1 h2 h3 hl => lv_astore_nN C.x C.b hd rfl hl hn rfl (fun ls' hl' => (k p e R s m args below meth c locs _ H C hR h1 h2 h3 hl'))
theorem V_astore {i : Nat} {v : Value} (hd : decode M.2.1 pc = .ok (.astore i, 2)) (hv : (∃ a, v = .ref a) ∨ v = .null) (hn : i < M.2.2.1) (k : V l E M d P (pc + 2) (g_st1 i v L) st G) : V l E M d P pc L (v :: st) G := by
  rcases hv with ⟨a, rfl⟩ | rfl
  · exact fun p e R s m args below meth c locs ls H C hR h1 h2 h3 hl => lv_astore C.x C.b hd hl hn rfl (fun ls' hl' => (k p e R s m args below meth c locs _ H C hR h1 h2 h3 hl'))
  · exact fun p e R s m args below meth c locs ls H C hR h1 h2 h3 hl => lv_astoreN C.x C.b hd hl hn rfl (fun ls' hl' => (k p e R s m args below meth c locs _ H C hR h1 h2 h3 hl'))
theorem V_iinc {i : Nat} {n : Int} {x : Int32} (hd : decode M.2.1 pc = .ok (.iinc i n, 3)) (hk : g_lk L i = some (.int x)) (hn : i < M.2.2.1) (k : V l E M d P (pc + 3) (g_st1 i (.int (x + Int32.ofInt n)) L) st G) : V l E M d P pc L st G := by
  refine fun p e R s m args below meth c locs ls H C hR h1 h2 h3 hl => ?_
  have hl2 : lv_has ls M.2.2.1 ((i, .int x) :: L) := ⟨hl.1, hl.2.1, fun q hq => (List.mem_cons.mp hq).elim (fun e => by rw [e]; exact g_lk_at hl hk) (hl.2.2 q)⟩
  refine lv_iinc (k := 0) C.x C.b hd hl2 rfl rfl hn rfl (fun ls' hl' => k p e R s m args below meth c locs ls' H C hR h1 h2 h3 ?_)
  refine ⟨hl'.1, hl'.2.1, fun q hq => hl'.2.2 q ?_⟩
  rcases List.mem_cons.mp hq with e | e
  · rw [e]; exact List.mem_cons_self
  · rw [List.mem_filter] at e
    exact List.mem_cons_of_mem _ (List.mem_filter.mpr ⟨List.mem_cons_of_mem _ e.1, e.2⟩)
theorem V_if_eq {x : Int32} {off : Int} (tgt : Nat) (hd : decode M.2.1 pc = .ok (.ifCond .eq off, 3)) (ht : (pc : Int) + off = (tgt : Int)) (kt : x = 0 → V l E M d P tgt L st G) (kf : ¬ x = 0 → V l E M d P (pc + 3) L st G) : V l E M d P pc L (.int x :: st) G :=
  fun p e R s m args below meth c locs ls H C hR h1 h2 h3 hl => lv_if_eq C.x C.b hd ht (fun z => kt z p e R s m args below meth c locs ls H C hR h1 h2 h3 hl) (fun z => kf z p e R s m args below meth c locs ls H C hR h1 h2 h3 hl)
theorem V_icmp_eq {x y : Int32} {off : Int} (tgt : Nat) (hd : decode M.2.1 pc = .ok (.if_icmp .eq off, 3)) (ht : (pc : Int) + off = (tgt : Int)) (kt : x = y → V l E M d P tgt L st G) (kf : ¬ x = y → V l E M d P (pc + 3) L st G) : V l E M d P pc L (.int y :: .int x :: st) G :=
  fun p e R s m args below meth c locs ls H C hR h1 h2 h3 hl => lv_icmp_eq C.x C.b hd ht (fun z => kt z p e R s m args below meth c locs ls H C hR h1 h2 h3 hl) (fun z => kf z p e R s m args below meth c locs ls H C hR h1 h2 h3 hl)
theorem V_if_ne {x : Int32} {off : Int} (tgt : Nat) (hd : decode M.2.1 pc = .ok (.ifCond .ne off, 3)) (ht : (pc : Int) + off = (tgt : Int)) (kt : ¬ x = 0 → V l E M d P tgt L st G) (kf : x = 0 → V l E M d P (pc + 3) L st G) : V l E M d P pc L (.int x :: st) G :=
  fun p e R s m args below meth c locs ls H C hR h1 h2 h3 hl => lv_if_ne C.x C.b hd ht (fun z => kt z p e R s m args below meth c locs ls H C hR h1 h2 h3 hl) (fun z => kf z p e R s m args below meth c locs ls H C hR h1 h2 h3 hl)
theorem V_icmp_ne {x y : Int32} {off : Int} (tgt : Nat) (hd : decode M.2.1 pc = .ok (.if_icmp .ne off, 3)) (ht : (pc : Int) + off = (tgt : Int)) (kt : ¬ x = y → V l E M d P tgt L st G) (kf : x = y → V l E M d P (pc + 3) L st G) : V l E M d P pc L (.int y :: .int x :: st) G :=
  fun p e R s m args below meth c locs ls H C hR h1 h2 h3 hl => lv_icmp_ne C.x C.b hd ht (fun z => kt z p e R s m args below meth c locs ls H C hR h1 h2 h3 hl) (fun z => kf z p e R s m args below meth c locs ls H C hR h1 h2 h3 hl)
theorem V_if_lt {x : Int32} {off : Int} (tgt : Nat) (hd : decode M.2.1 pc = .ok (.ifCond .lt off, 3)) (ht : (pc : Int) + off = (tgt : Int)) (kt : x < 0 → V l E M d P tgt L st G) (kf : ¬ x < 0 → V l E M d P (pc + 3) L st G) : V l E M d P pc L (.int x :: st) G :=
  fun p e R s m args below meth c locs ls H C hR h1 h2 h3 hl => lv_if_lt C.x C.b hd ht (fun z => kt z p e R s m args below meth c locs ls H C hR h1 h2 h3 hl) (fun z => kf z p e R s m args below meth c locs ls H C hR h1 h2 h3 hl)
theorem V_icmp_lt {x y : Int32} {off : Int} (tgt : Nat) (hd : decode M.2.1 pc = .ok (.if_icmp .lt off, 3)) (ht : (pc : Int) + off = (tgt : Int)) (kt : x < y → V l E M d P tgt L st G) (kf : ¬ x < y → V l E M d P (pc + 3) L st G) : V l E M d P pc L (.int y :: .int x :: st) G :=
  fun p e R s m args below meth c locs ls H C hR h1 h2 h3 hl => lv_icmp_lt C.x C.b hd ht (fun z => kt z p e R s m args below meth c locs ls H C hR h1 h2 h3 hl) (fun z => kf z p e R s m args below meth c locs ls H C hR h1 h2 h3 hl)
theorem V_if_ge {x : Int32} {off : Int} (tgt : Nat) (hd : decode M.2.1 pc = .ok (.ifCond .ge off, 3)) (ht : (pc : Int) + off = (tgt : Int)) (kt : 0 ≤ x → V l E M d P tgt L st G) (kf : ¬ 0 ≤ x → V l E M d P (pc + 3) L st G) : V l E M d P pc L (.int x :: st) G :=
  fun p e R s m args below meth c locs ls H C hR h1 h2 h3 hl => lv_if_ge C.x C.b hd ht (fun z => kt z p e R s m args below meth c locs ls H C hR h1 h2 h3 hl) (fun z => kf z p e R s m args below meth c locs ls H C hR h1 h2 h3 hl)
theorem V_icmp_ge {x y : Int32} {off : Int} (tgt : Nat) (hd : decode M.2.1 pc = .ok (.if_icmp .ge off, 3)) (ht : (pc : Int) + off = (tgt : Int)) (kt : y ≤ x → V l E M d P tgt L st G) (kf : ¬ y ≤ x → V l E M d P (pc + 3) L st G) : V l E M d P pc L (.int y :: .int x :: st) G :=
  fun p e R s m args below meth c locs ls H C hR h1 h2 h3 hl => lv_icmp_ge C.x C.b hd ht (fun z => kt z p e R s m args below meth c locs ls H C hR h1 h2 h3 hl) (fun z => kf z p e R s m args below meth c locs ls H C hR h1 h2 h3 hl)
theorem V_if_gt {x : Int32} {off : Int} (tgt : Nat) (hd : decode M.2.1 pc = .ok (.ifCond .gt off, 3)) (ht : (pc : Int) + off = (tgt : Int)) (kt : 0 < x → V l E M d P tgt L st G) (kf : ¬ 0 < x → V l E M d P (pc + 3) L st G) : V l E M d P pc L (.int x :: st) G :=
  fun p e R s m args below meth c locs ls H C hR h1 h2 h3 hl => lv_if_gt C.x C.b hd ht (fun z => kt z p e R s m args below meth c locs ls H C hR h1 h2 h3 hl) (fun z => kf z p e R s m args below meth c locs ls H C hR h1 h2 h3 hl)
theorem V_icmp_gt {x y : Int32} {off : Int} (tgt : Nat) (hd : decode M.2.1 pc = .ok (.if_icmp .gt off, 3)) (ht : (pc : Int) + off = (tgt : Int)) (kt : y < x → V l E M d P tgt L st G) (kf : ¬ y < x → V l E M d P (pc + 3) L st G) : V l E M d P pc L (.int y :: .int x :: st) G :=
  fun p e R s m args below meth c locs ls H C hR h1 h2 h3 hl => lv_icmp_gt C.x C.b hd ht (fun z => kt z p e R s m args below meth c locs ls H C hR h1 h2 h3 hl) (fun z => kf z p e R s m args below meth c locs ls H C hR h1 h2 h3 hl)
theorem V_if_le {x : Int32} {off : Int} (tgt : Nat) (hd : decode M.2.1 pc = .ok (.ifCond .le off, 3)) (ht : (pc : Int) + off = (tgt : Int)) (kt : x ≤ 0 → V l E M d P tgt L st G) (kf : ¬ x ≤ 0 → V l E M d P (pc + 3) L st G) : V l E M d P pc L (.int x :: st) G :=
  fun p e R s m args below meth c locs ls H C hR h1 h2 h3 hl => lv_if_le C.x C.b hd ht (fun z => kt z p e R s m args below meth c locs ls H C hR h1 h2 h3 hl) (fun z => kf z p e R s m args below meth c locs ls H C hR h1 h2 h3 hl)
theorem V_icmp_le {x y : Int32} {off : Int} (tgt : Nat) (hd : decode M.2.1 pc = .ok (.if_icmp .le off, 3)) (ht : (pc : Int) + off = (tgt : Int)) (kt : x ≤ y → V l E M d P tgt L st G) (kf : ¬ x ≤ y → V l E M d P (pc + 3) L st G) : V l E M d P pc L (.int y :: .int x :: st) G :=
  fun p e R s m args below meth c locs ls H C hR h1 h2 h3 hl => lv_icmp_le C.x C.b hd ht (fun z => kt z p e R s m args below meth c locs ls H C hR h1 h2 h3 hl) (fun z => kf z p e R s m args below meth c locs ls H C hR h1 h2 h3 hl)
theorem V_acmp_eq {rx ry : Option Nat} {off : Int} (tgt : Nat) (hd : decode M.2.1 pc = .ok (.if_acmp .eq off, 3)) (ht : (pc : Int) + off = (tgt : Int)) (kt : rx = ry → V l E M d P tgt L st G) (kf : ¬ rx = ry → V l E M d P (pc + 3) L st G) : V l E M d P pc L (va_rf ry :: va_rf rx :: st) G :=
  fun p e R s m args below meth c locs ls H C hR h1 h2 h3 hl => lv_acmp_eq C.x C.b hd ht (fun z => kt z p e R s m args below meth c locs ls H C hR h1 h2 h3 hl) (fun z => kf z p e R s m args below meth c locs ls H C hR h1 h2 h3 hl)
theorem V_acmp_ne {rx ry : Option Nat} {off : Int} (tgt : Nat) (hd : decode M.2.1 pc = .ok (.if_acmp .ne off, 3)) (ht : (pc : Int) + off = (tgt : Int)) (kt : ¬ rx = ry → V l E M d P tgt L st G) (kf : rx = ry → V l E M d P (pc + 3) L st G) : V l E M d P pc L (va_rf ry :: va_rf rx :: st) G :=
  fun p e R s m args below meth c locs ls H C hR h1 h2 h3 hl => lv_acmp_ne C.x C.b hd ht (fun z => kt z p e R s m args below meth c locs ls H C hR h1 h2 h3 hl) (fun z => kf z p e R s m args below meth c locs ls H C hR h1 h2 h3 hl)
theorem V_goto {off : Int} (tgt : Nat) (hd : decode M.2.1 pc = .ok (.goto off, 3)) (ht : (pc : Int) + off = (tgt : Int)) (k : V l E M d P tgt L st G) : V l E M d P pc L st G :=
  fun p e R s m args below meth c locs ls H C hR h1 h2 h3 hl => lv_goto C.x C.b hd ht (k p e R s m args below meth c locs ls H C hR h1 h2 h3 hl)
theorem V_ifnonnull {a : Nat} {off : Int} (tgt : Nat) (hd : decode M.2.1 pc = .ok (.ifnonnull off, 3)) (ht : (pc : Int) + off = (tgt : Int)) (k : V l E M d P tgt L st G) : V l E M d P pc L (.ref a :: st) G :=
  fun p e R s m args below meth c locs ls H C hR h1 h2 h3 hl => lv_ifnonnull C.x C.b hd ht (k p e R s m args below meth c locs ls H C hR h1 h2 h3 hl)
theorem V_ifnonnullN {off : Int} (hd : decode M.2.1 pc = .ok (.ifnonnull off, 3)) (k : V l E M d P (pc + 3) L st G) : V l E M d P pc L (.null :: st) G :=
  fun p e R s m args below meth c locs ls H C hR h1 h2 h3 hl => lv_ifnonnullN C.x C.b hd (k p e R s m args below meth c locs ls H C hR h1 h2 h3 hl)
theorem V_ifnull {a : Nat} {off : Int} (hd : decode M.2.1 pc = .ok (.ifnull off, 3)) (k : V l E M d P (pc + 3) L st G) : V l E M d P pc L (.ref a :: st) G :=
  fun p e R s m args below meth c locs ls H C hR h1 h2 h3 hl => lv_ifnull C.x C.b hd (k p e R s m args below meth c locs ls H C hR h1 h2 h3 hl)
theorem V_ifnullN {off : Int} (tgt : Nat) (hd : decode M.2.1 pc = .ok (.ifnull off, 3)) (ht : (pc : Int) + off = (tgt : Int)) (k : V l E M d P tgt L st G) : V l E M d P pc L (.null :: st) G :=
  fun p e R s m args below meth c locs ls H C hR h1 h2 h3 hl => lv_ifnullN C.x C.b hd ht (k p e R s m args below meth c locs ls H C hR h1 h2 h3 hl)
theorem V_lookup {dflt : Int} {ps : Array (Int × Int)} {len : Nat} {x : Int32} {off : Int} (tgt : Nat) (hd : decode M.2.1 pc = .ok (.lookupswitch dflt ps, len)) (hp : (ps.toList.zip (ps.toList.drop 1)).all (fun (a, next) => a.1 < next.1) = true) (ho : Op.lookupswitch.offset ps.toList dflt x.toInt = off) (ht : (pc : Int) + off = (tgt : Int)) (k : V l E M d P tgt L st G) : V l E M d P pc L (.int x :: st) G :=
  fun p e R s m args below meth c locs ls H C hR h1 h2 h3 hl => lv_lookup C.x C.b hd hp ho ht (k p e R s m args below meth c locs ls H C hR h1 h2 h3 hl)
theorem V_tableOut {dflt lo hi : Int} {offs : Array Int} {len : Nat} {x : Int32} (tgt : Nat) (hd : decode M.2.1 pc = .ok (.tableswitch dflt lo hi offs, len)) (h : x.toInt < lo ∨ hi < x.toInt) (ht : (pc : Int) + dflt = (tgt : Int)) (k : V l E M d P tgt L st G) : V l E M d P pc L (.int x :: st) G :=
  fun p e R s m args below meth c locs ls H C hR h1 h2 h3 hl => lv_tableOut C.x C.b hd h ht (k p e R s m args below meth c locs ls H C hR h1 h2 h3 hl)
theorem V_tableIn {dflt lo hi : Int} {offs : Array Int} {len : Nat} {x : Int32} {off : Int} (tgt : Nat) (hd : decode M.2.1 pc = .ok (.tableswitch dflt lo hi offs, len)) (q1 : ¬ x.toInt < lo) (q2 : ¬ hi < x.toInt) (ho : offs[(x.toInt - lo).toNat]? = some off) (ht : (pc : Int) + off = (tgt : Int)) (k : V l E M d P tgt L st G) : V l E M d P pc L (.int x :: st) G :=
  fun p e R s m args below meth c locs ls H C hR h1 h2 h3 hl => lv_tableIn C.x C.b hd q1 q2 ho ht (k p e R s m args below meth c locs ls H C hR h1 h2 h3 hl)
theorem V_lcmp {x y : Int64} (hd : decode M.2.1 pc = .ok (.lcmp, 1))  (k : V l E M d P (pc + 1) L (.int (lg_cmp x y) :: st) G) : V l E M d P pc L (.long y :: .long x :: st) G :=
  fun p e R s m args below meth c locs ls H C hR h1 h2 h3 hl => W.lcmp C.x C.b hd  (k p e R s m args below meth c locs ls H C hR h1 h2 h3 hl)
theorem V_ldc {i : Nat} (v : Int32) (hw : (Jvm.Cond.constant M.1.cls i v) ∈ lw_all) (hd : decode M.2.1 pc = .ok (.ldc i, 2)) (k : V l E M d P (pc + 2) L (.int v :: st) G) : V l E M d P pc L st G :=
  fun p e R s m args below meth c locs ls H C hR h1 h2 h3 hl => lv_ldc C.x C.b C.own (C.w hw args) hd (k p e R s m args below meth c locs ls H C hR h1 h2 h3 hl)
theorem V_ldcw {i : Nat} (v : Int32) (hw : (Jvm.Cond.constant M.1.cls i v) ∈ lw_all) (hd : decode M.2.1 pc = .ok (.ldc_w i, 3)) (k : V l E M d P (pc + 3) L (.int v :: st) G) : V l E M d P pc L st G :=
  fun p e R s m args below meth c locs ls H C hR h1 h2 h3 hl => lv_ldcw C.x C.b C.own (C.w hw args) hd (k p e R s m args below meth c locs ls H C hR h1 h2 h3 hl)
theorem V_ldc2 {i : Nat} (v : Int64) (hw : (Jvm.Cond.constantLong M.1.cls i v) ∈ lw_all) (hd : decode M.2.1 pc = .ok (.ldc2_w i, 3)) (k : V l E M d P (pc + 3) L (.long v :: st) G) : V l E M d P pc L st G :=
  fun p e R s m args below meth c locs ls H C hR h1 h2 h3 hl => lv_ldc2 C.x C.b C.own (C.w hw args) hd (k p e R s m args below meth c locs ls H C hR h1 h2 h3 hl)
theorem V_castN {i : Nat} (hd : decode M.2.1 pc = .ok (.checkcast i, 3))  (k : V l E M d P (pc + 3) L (.null :: st) G) : V l E M d P pc L (.null :: st) G :=
  fun p e R s m args below meth c locs ls H C hR h1 h2 h3 hl => lv_castN C.x C.b hd  (k p e R s m args below meth c locs ls H C hR h1 h2 h3 hl)
theorem V_instN {i : Nat} (hd : decode M.2.1 pc = .ok (.instanceof i, 3))  (k : V l E M d P (pc + 3) L (.int 0 :: st) G) : V l E M d P pc L (.null :: st) G :=
  fun p e R s m args below meth c locs ls H C hR h1 h2 h3 hl => lv_instN C.x C.b hd  (k p e R s m args below meth c locs ls H C hR h1 h2 h3 hl)
end VR
