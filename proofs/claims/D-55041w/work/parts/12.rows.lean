/-- a method's surroundings: program, launch, environment, room, start, method, arguments, frames below, method, code, what is wanted, the picture's numbers, where the run's cells begin -/
abbrev GX : Type := Program × Launch × Env × Room × State × MethodId × Array Value × List Frame × Method × Code × (State → Prop) × Dg × Nat
/-- from the frame at pc with these locals and this stack, over a heap with the picture S, what is wanted comes -/
def G (g : GX) (c n : Nat) (S : Mm) (pc : Nat) (L : List (Nat × Value)) (st : List Value) : Prop := match g with
  | (p, l, e, R, s, m, args, below, meth, code, Q, D, B) => ∀ (H : Heap) (locs : List Loc) (ls : Array Slot), HP D B S H → va_S (fun q => B ≤ q) s.heap H locs → lv_has ls code.maxLocals L → W p l e R s m args below meth code H locs c n Q (F0 m pc ls st)
def Cx (g : GX) (own : String) (cc : ByteArray) (nL : Nat) (R0 : Room) : Prop := match g with
  | (p, l, _e, R, s, m, args, _below, meth, code, _Q, D, B) => p.tables.exec = Jvm.exec ∧ code.code = cc ∧ code.maxLocals = nL ∧ s.vm.findClass own = some m.cls ∧ (∀ w ∈ lw_all, w.before args s = true) ∧ Kx D B s ∧ B ≤ s.heap.size ∧ l.stackTraces = false ∧ meth.locks = false ∧ R = R0
section ROWS
variable {g : GX} {own : String} {cc : ByteArray} {nL : Nat} {R0 : Room} {c n pc : Nat} {S : Mm} {L L' : List (Nat × Value)} {st : List Value}
theorem G.eq {st' : List Value} (h : st = st') (k : G g c n S pc L st') : G g c n S pc L st := h ▸ k
theorem G.mem {S' : Mm} (h : S = S') (k : G g c n S' pc L st) : G g c n S pc L st := h ▸ k
theorem G.wide {c' n' : Nat} (h1 : c ≤ c') (h2 : n ≤ n') (k : G g c' n' S pc L st) : G g c n S pc L st := by
  obtain ⟨p, l, e, R, s, m, args, below, meth, code, Q, D, B⟩ := g
  exact fun H locs ls h3 h4 h5 => W.widen h1 h2 (k H locs ls h3 h4 h5)
theorem G.loc (h : ∀ q ∈ L', q ∈ L) (k : G g c n S pc L' st) : G g c n S pc L st := by
  obtain ⟨p, l, e, R, s, m, args, below, meth, code, Q, D, B⟩ := g
  exact fun H locs ls h3 h4 h5 => k H locs ls h3 h4 ⟨h5.1, h5.2.1, fun q hq => h5.2.2 q (h q hq)⟩

theorem g_iconst (X : Cx g own cc nL R0) {z : Int} (v : Int32) (hv : Int32.ofInt z = v) (hd : decode cc pc = .ok (.iconst z, 1)) (kk : G g c n S (pc + 1) L (.int v :: st)) : G g c n S pc L (st) := by
  obtain ⟨p, l, e, R, s, m, args, below, meth, code, Q, D, B⟩ := g
  obtain ⟨hx, hb, hml, -⟩ := X
  exact fun H locs ls h1 h2 h3 => lv_iconst hx hb hd hv (kk H locs ls h1 h2 h3)
theorem g_bipush (X : Cx g own cc nL R0) {z : Int} (v : Int32) (hv : (Int8.ofInt z).toInt32 = v) (hd : decode cc pc = .ok (.bipush z, 2)) (kk : G g c n S (pc + 2) L (.int v :: st)) : G g c n S pc L (st) := by
  obtain ⟨p, l, e, R, s, m, args, below, meth, code, Q, D, B⟩ := g
  obtain ⟨hx, hb, hml, -⟩ := X
  exact fun H locs ls h1 h2 h3 => lv_bipush hx hb hd hv (kk H locs ls h1 h2 h3)
theorem g_sipush (X : Cx g own cc nL R0) {z : Int} (v : Int32) (hv : (Int16.ofInt z).toInt32 = v) (hd : decode cc pc = .ok (.sipush z, 3)) (kk : G g c n S (pc + 3) L (.int v :: st)) : G g c n S pc L (st) := by
  obtain ⟨p, l, e, R, s, m, args, below, meth, code, Q, D, B⟩ := g
  obtain ⟨hx, hb, hml, -⟩ := X
  exact fun H locs ls h1 h2 h3 => lv_sipush hx hb hd hv (kk H locs ls h1 h2 h3)
theorem g_null (X : Cx g own cc nL R0)  (hd : decode cc pc = .ok (.aconst_null, 1)) (kk : G g c n S (pc + 1) L (.null :: st)) : G g c n S pc L (st) := by
  obtain ⟨p, l, e, R, s, m, args, below, meth, code, Q, D, B⟩ := g
  obtain ⟨hx, hb, hml, -⟩ := X
  exact fun H locs ls h1 h2 h3 => lv_null hx hb hd  (kk H locs ls h1 h2 h3)
theorem g_iadd (X : Cx g own cc nL R0) {x y : Int32} (hd : decode cc pc = .ok (.iadd, 1)) (kk : G g c n S (pc + 1) L (.int (x + y) :: st)) : G g c n S pc L (.int y :: .int x :: st) := by
  obtain ⟨p, l, e, R, s, m, args, below, meth, code, Q, D, B⟩ := g
  obtain ⟨hx, hb, hml, -⟩ := X
  exact fun H locs ls h1 h2 h3 => lv_iadd hx hb hd  (kk H locs ls h1 h2 h3)
theorem g_isub (X : Cx g own cc nL R0) {x y : Int32} (hd : decode cc pc = .ok (.isub, 1)) (kk : G g c n S (pc + 1) L (.int (x - y) :: st)) : G g c n S pc L (.int y :: .int x :: st) := by
  obtain ⟨p, l, e, R, s, m, args, below, meth, code, Q, D, B⟩ := g
  obtain ⟨hx, hb, hml, -⟩ := X
  exact fun H locs ls h1 h2 h3 => lv_isub hx hb hd  (kk H locs ls h1 h2 h3)
theorem g_imul (X : Cx g own cc nL R0) {x y : Int32} (hd : decode cc pc = .ok (.imul, 1)) (kk : G g c n S (pc + 1) L (.int (x * y) :: st)) : G g c n S pc L (.int y :: .int x :: st) := by
  obtain ⟨p, l, e, R, s, m, args, below, meth, code, Q, D, B⟩ := g
  obtain ⟨hx, hb, hml, -⟩ := X
  exact fun H locs ls h1 h2 h3 => lv_imul hx hb hd  (kk H locs ls h1 h2 h3)
theorem g_iand (X : Cx g own cc nL R0) {x y : Int32} (hd : decode cc pc = .ok (.iand, 1)) (kk : G g c n S (pc + 1) L (.int (x &&& y) :: st)) : G g c n S pc L (.int y :: .int x :: st) := by
  obtain ⟨p, l, e, R, s, m, args, below, meth, code, Q, D, B⟩ := g
  obtain ⟨hx, hb, hml, -⟩ := X
  exact fun H locs ls h1 h2 h3 => lv_iand hx hb hd  (kk H locs ls h1 h2 h3)
theorem g_ior (X : Cx g own cc nL R0) {x y : Int32} (hd : decode cc pc = .ok (.ior, 1)) (kk : G g c n S (pc + 1) L (.int (x ||| y) :: st)) : G g c n S pc L (.int y :: .int x :: st) := by
  obtain ⟨p, l, e, R, s, m, args, below, meth, code, Q, D, B⟩ := g
  obtain ⟨hx, hb, hml, -⟩ := X
  exact fun H locs ls h1 h2 h3 => lv_ior hx hb hd  (kk H locs ls h1 h2 h3)
theorem g_ixor (X : Cx g own cc nL R0) {x y : Int32} (hd : decode cc pc = .ok (.ixor, 1)) (kk : G g c n S (pc + 1) L (.int (x ^^^ y) :: st)) : G g c n S pc L (.int y :: .int x :: st) := by
  obtain ⟨p, l, e, R, s, m, args, below, meth, code, Q, D, B⟩ := g
  obtain ⟨hx, hb, hml, -⟩ := X
  exact fun H locs ls h1 h2 h3 => lv_ixor hx hb hd  (kk H locs ls h1 h2 h3)
theorem g_ishl (X : Cx g own cc nL R0) {x y : Int32} (hd : decode cc pc = .ok (.ishl, 1)) (kk : G g c n S (pc + 1) L (.int (x <<< (y &&& 31)) :: st)) : G g c n S pc L (.int y :: .int x :: st) := by
  obtain ⟨p, l, e, R, s, m, args, below, meth, code, Q, D, B⟩ := g
  obtain ⟨hx, hb, hml, -⟩ := X
  exact fun H locs ls h1 h2 h3 => lv_ishl hx hb hd  (kk H locs ls h1 h2 h3)
theorem g_ishr (X : Cx g own cc nL R0) {x y : Int32} (hd : decode cc pc = .ok (.ishr, 1)) (kk : G g c n S (pc + 1) L (.int (x >>> (y &&& 31)) :: st)) : G g c n S pc L (.int y :: .int x :: st) := by
  obtain ⟨p, l, e, R, s, m, args, below, meth, code, Q, D, B⟩ := g
  obtain ⟨hx, hb, hml, -⟩ := X
  exact fun H locs ls h1 h2 h3 => lv_ishr hx hb hd  (kk H locs ls h1 h2 h3)
theorem g_iushr (X : Cx g own cc nL R0) {x y : Int32} (hd : decode cc pc = .ok (.iushr, 1)) (kk : G g c n S (pc + 1) L (.int ((x.toUInt32 >>> (y.toUInt32 &&& Int32.toUInt32 31)).toInt32) :: st)) : G g c n S pc L (.int y :: .int x :: st) := by
  obtain ⟨p, l, e, R, s, m, args, below, meth, code, Q, D, B⟩ := g
  obtain ⟨hx, hb, hml, -⟩ := X
  exact fun H locs ls h1 h2 h3 => lv_iushr hx hb hd rfl (kk H locs ls h1 h2 h3)
theorem g_idiv (X : Cx g own cc nL R0) {x y : Int32} (h0 : ¬ y = 0) (hd : decode cc pc = .ok (.idiv, 1)) (kk : G g c n S (pc + 1) L (.int (x / y) :: st)) : G g c n S pc L (.int y :: .int x :: st) := by
  obtain ⟨p, l, e, R, s, m, args, below, meth, code, Q, D, B⟩ := g
  obtain ⟨hx, hb, hml, -⟩ := X
  exact fun H locs ls h1 h2 h3 => lv_idiv hx hb hd h0 (kk H locs ls h1 h2 h3)
theorem g_irem (X : Cx g own cc nL R0) {x y : Int32} (h0 : ¬ y = 0) (hd : decode cc pc = .ok (.irem, 1)) (kk : G g c n S (pc + 1) L (.int (x - x / y * y) :: st)) : G g c n S pc L (.int y :: .int x :: st) := by
  obtain ⟨p, l, e, R, s, m, args, below, meth, code, Q, D, B⟩ := g
  obtain ⟨hx, hb, hml, -⟩ := X
  exact fun H locs ls h1 h2 h3 => lv_irem hx hb hd h0 (kk H locs ls h1 h2 h3)
theorem g_ineg (X : Cx g own cc nL R0) {x : Int32} (hd : decode cc pc = .ok (.ineg, 1)) (kk : G g c n S (pc + 1) L (.int (-x) :: st)) : G g c n S pc L (.int x :: st) := by
  obtain ⟨p, l, e, R, s, m, args, below, meth, code, Q, D, B⟩ := g
  obtain ⟨hx, hb, hml, -⟩ := X
  exact fun H locs ls h1 h2 h3 => lv_ineg hx hb hd  (kk H locs ls h1 h2 h3)
theorem g_i2l (X : Cx g own cc nL R0) {x : Int32} (hd : decode cc pc = .ok (.i2l, 1)) (kk : G g c n S (pc + 1) L (.long x.toInt64 :: st)) : G g c n S pc L (.int x :: st) := by
  obtain ⟨p, l, e, R, s, m, args, below, meth, code, Q, D, B⟩ := g
  obtain ⟨hx, hb, hml, -⟩ := X
  exact fun H locs ls h1 h2 h3 => lv_i2l hx hb hd rfl (kk H locs ls h1 h2 h3)
theorem g_i2b (X : Cx g own cc nL R0) {x : Int32} (hd : decode cc pc = .ok (.i2b, 1)) (kk : G g c n S (pc + 1) L (.int x.toInt8.toInt32 :: st)) : G g c n S pc L (.int x :: st) := by
  obtain ⟨p, l, e, R, s, m, args, below, meth, code, Q, D, B⟩ := g
  obtain ⟨hx, hb, hml, -⟩ := X
  exact fun H locs ls h1 h2 h3 => lv_i2b hx hb hd rfl (kk H locs ls h1 h2 h3)
theorem g_i2c (X : Cx g own cc nL R0) {x : Int32} (hd : decode cc pc = .ok (.i2c, 1)) (kk : G g c n S (pc + 1) L (.int (x.toUInt32 % 65536).toInt32 :: st)) : G g c n S pc L (.int x :: st) := by
  obtain ⟨p, l, e, R, s, m, args, below, meth, code, Q, D, B⟩ := g
  obtain ⟨hx, hb, hml, -⟩ := X
  exact fun H locs ls h1 h2 h3 => lv_i2c hx hb hd rfl (kk H locs ls h1 h2 h3)
theorem g_i2f (X : Cx g own cc nL R0) {x : Int32} (hd : decode cc pc = .ok (.i2f, 1)) (kk : G g c n S (pc + 1) L (.float (FP.i2f x) :: st)) : G g c n S pc L (.int x :: st) := by
  obtain ⟨p, l, e, R, s, m, args, below, meth, code, Q, D, B⟩ := g
  obtain ⟨hx, hb, hml, -⟩ := X
  exact fun H locs ls h1 h2 h3 => lv_i2f hx hb hd  (kk H locs ls h1 h2 h3)
theorem g_i2d (X : Cx g own cc nL R0) {x : Int32} (hd : decode cc pc = .ok (.i2d, 1)) (kk : G g c n S (pc + 1) L (.double (FP.i2d x) :: st)) : G g c n S pc L (.int x :: st) := by
  obtain ⟨p, l, e, R, s, m, args, below, meth, code, Q, D, B⟩ := g
  obtain ⟨hx, hb, hml, -⟩ := X
  exact fun H locs ls h1 h2 h3 => lv_i2d hx hb hd  (kk H locs ls h1 h2 h3)
theorem g_f2d (X : Cx g own cc nL R0) {x : UInt32} (h0 : vf_n64 (FP.f2d x)) (hd : decode cc pc = .ok (.f2d, 1)) (kk : G g c n S (pc + 1) L (.double (FP.f2d x) :: st)) : G g c n S pc L (.float x :: st) := by
  obtain ⟨p, l, e, R, s, m, args, below, meth, code, Q, D, B⟩ := g
  obtain ⟨hx, hb, hml, -⟩ := X
  exact fun H locs ls h1 h2 h3 => lv_f2d hx hb hd h0 (kk H locs ls h1 h2 h3)
theorem g_fdiv (X : Cx g own cc nL R0) {x y : UInt32} (h0 : vf_n32 (FP.fdiv x y)) (hd : decode cc pc = .ok (.fdiv, 1)) (kk : G g c n S (pc + 1) L (.float (FP.fdiv x y) :: st)) : G g c n S pc L (.float y :: .float x :: st) := by
  obtain ⟨p, l, e, R, s, m, args, below, meth, code, Q, D, B⟩ := g
  obtain ⟨hx, hb, hml, -⟩ := X
  exact fun H locs ls h1 h2 h3 => lv_fdiv hx hb hd h0 (kk H locs ls h1 h2 h3)
theorem g_ddiv (X : Cx g own cc nL R0) {x y : UInt64} (h0 : vf_n64 (FP.ddiv x y)) (hd : decode cc pc = .ok (.ddiv, 1)) (kk : G g c n S (pc + 1) L (.double (FP.ddiv x y) :: st)) : G g c n S pc L (.double y :: .double x :: st) := by
  obtain ⟨p, l, e, R, s, m, args, below, meth, code, Q, D, B⟩ := g
  obtain ⟨hx, hb, hml, -⟩ := X
  exact fun H locs ls h1 h2 h3 => lv_ddiv hx hb hd h0 (kk H locs ls h1 h2 h3)
theorem g_fcmp (X : Cx g own cc nL R0) {x y : UInt32} {op : CmpOp} (hd : decode cc pc = .ok (.fcmp op, 1)) (kk : G g c n S (pc + 1) L (.int (Op.cmpValue (FP.fcmp x y) op) :: st)) : G g c n S pc L (.float y :: .float x :: st) := by
  obtain ⟨p, l, e, R, s, m, args, below, meth, code, Q, D, B⟩ := g
  obtain ⟨hx, hb, hml, -⟩ := X
  exact fun H locs ls h1 h2 h3 => lv_fcmp hx hb hd  (kk H locs ls h1 h2 h3)
theorem g_dcmp (X : Cx g own cc nL R0) {x y : UInt64} {op : CmpOp} (hd : decode cc pc = .ok (.dcmp op, 1)) (kk : G g c n S (pc + 1) L (.int (Op.cmpValue (FP.dcmp x y) op) :: st)) : G g c n S pc L (.double y :: .double x :: st) := by
  obtain ⟨p, l, e, R, s, m, args, below, meth, code, Q, D, B⟩ := g
  obtain ⟨hx, hb, hml, -⟩ := X
  exact fun H locs ls h1 h2 h3 => lv_dcmp hx hb hd  (kk H locs ls h1 h2 h3)
theorem g_lcmp (X : Cx g own cc nL R0) {x y : Int64} (hd : decode cc pc = .ok (.lcmp, 1)) (kk : G g c n S (pc + 1) L (.int (lg_cmp x y) :: st)) : G g c n S pc L (.long y :: .long x :: st) := by
  obtain ⟨p, l, e, R, s, m, args, below, meth, code, Q, D, B⟩ := g
  obtain ⟨hx, hb, hml, -⟩ := X
  exact fun H locs ls h1 h2 h3 => W.lcmp hx hb hd  (kk H locs ls h1 h2 h3)
theorem g_dup (X : Cx g own cc nL R0) {v : Value} (hv : v.category = 1) (hd : decode cc pc = .ok (.dup, 1)) (kk : G g c n S (pc + 1) L (v :: v :: st)) : G g c n S pc L (v :: st) := by
  obtain ⟨p, l, e, R, s, m, args, below, meth, code, Q, D, B⟩ := g
  obtain ⟨hx, hb, hml, -⟩ := X
  exact fun H locs ls h1 h2 h3 => lv_dup hx hb hd hv (kk H locs ls h1 h2 h3)
theorem g_pop (X : Cx g own cc nL R0) {v : Value} (hv : v.category = 1) (hd : decode cc pc = .ok (.pop, 1)) (kk : G g c n S (pc + 1) L (st)) : G g c n S pc L (v :: st) := by
  obtain ⟨p, l, e, R, s, m, args, below, meth, code, Q, D, B⟩ := g
  obtain ⟨hx, hb, hml, -⟩ := X
  exact fun H locs ls h1 h2 h3 => lv_pop hx hb hd hv (kk H locs ls h1 h2 h3)
theorem g_dup2 (X : Cx g own cc nL R0) {v w : Value} (hv : v.category = 1) (hw : w.category = 1) (hd : decode cc pc = .ok (.dup2, 1)) (kk : G g c n S (pc + 1) L (v :: w :: v :: w :: st)) : G g c n S pc L (v :: w :: st) := by
  obtain ⟨p, l, e, R, s, m, args, below, meth, code, Q, D, B⟩ := g
  obtain ⟨hx, hb, hml, -⟩ := X
  exact fun H locs ls h1 h2 h3 => lv_dup2_11 hx hb hd hv hw (kk H locs ls h1 h2 h3)
theorem g_dup_x1 (X : Cx g own cc nL R0) {v w : Value} (hv : v.category = 1) (hw : w.category = 1) (hd : decode cc pc = .ok (.dup_x1, 1)) (kk : G g c n S (pc + 1) L (v :: w :: v :: st)) : G g c n S pc L (v :: w :: st) := by
  obtain ⟨p, l, e, R, s, m, args, below, meth, code, Q, D, B⟩ := g
  obtain ⟨hx, hb, hml, -⟩ := X
  exact fun H locs ls h1 h2 h3 => lv_dup_x1 hx hb hd hv hw (kk H locs ls h1 h2 h3)
theorem g_goto (X : Cx g own cc nL R0) {off : Int} {tgt : Nat} (hd : decode cc pc = .ok (.goto off, 3)) (ht : (pc : Int) + off = (tgt : Int)) (kk : G g c n S tgt L (st)) : G g c n S pc L (st) := by
  obtain ⟨p, l, e, R, s, m, args, below, meth, code, Q, D, B⟩ := g
  obtain ⟨hx, hb, hml, -⟩ := X
  exact fun H locs ls h1 h2 h3 => lv_goto hx hb hd ht (kk H locs ls h1 h2 h3)
theorem g_iload_n (X : Cx g own cc nL R0) {z : Fin 4} {i : Nat} (k : Nat) {x : Int32} (hk : L[k]? = some (i, .int x)) (hi : (z : Nat) = i) (hd : decode cc pc = .ok (.iload_n z, 1)) (kk : G g c n S (pc + 1) L (.int x :: st)) : G g c n S pc L (st) := by
  obtain ⟨p, l, e, R, s, m, args, below, meth, code, Q, D, B⟩ := g
  obtain ⟨hx, hb, hml, -⟩ := X
  exact fun H locs ls h1 h2 h3 => lv_iload_n hx hb hd hi (lv_at h3 k hk) (kk H locs ls h1 h2 h3)
theorem g_iload (X : Cx g own cc nL R0) {i : Nat} (k : Nat) {x : Int32} (hk : L[k]? = some (i, .int x)) (hd : decode cc pc = .ok (.iload i, 2)) (kk : G g c n S (pc + 2) L (.int x :: st)) : G g c n S pc L (st) := by
  obtain ⟨p, l, e, R, s, m, args, below, meth, code, Q, D, B⟩ := g
  obtain ⟨hx, hb, hml, -⟩ := X
  exact fun H locs ls h1 h2 h3 => lv_iload hx hb hd (lv_at h3 k hk) (kk H locs ls h1 h2 h3)
theorem g_fload_n (X : Cx g own cc nL R0) {z : Fin 4} {i : Nat} (k : Nat) {x : UInt32} (hk : L[k]? = some (i, .float x)) (hi : (z : Nat) = i) (hd : decode cc pc = .ok (.fload_n z, 1)) (kk : G g c n S (pc + 1) L (.float x :: st)) : G g c n S pc L (st) := by
  obtain ⟨p, l, e, R, s, m, args, below, meth, code, Q, D, B⟩ := g
  obtain ⟨hx, hb, hml, -⟩ := X
  exact fun H locs ls h1 h2 h3 => lv_fload_n hx hb hd hi (lv_at h3 k hk) (kk H locs ls h1 h2 h3)
theorem g_fload (X : Cx g own cc nL R0) {i : Nat} (k : Nat) {x : UInt32} (hk : L[k]? = some (i, .float x)) (hd : decode cc pc = .ok (.fload i, 2)) (kk : G g c n S (pc + 2) L (.float x :: st)) : G g c n S pc L (st) := by
  obtain ⟨p, l, e, R, s, m, args, below, meth, code, Q, D, B⟩ := g
  obtain ⟨hx, hb, hml, -⟩ := X
  exact fun H locs ls h1 h2 h3 => lv_fload hx hb hd (lv_at h3 k hk) (kk H locs ls h1 h2 h3)
theorem g_dload_n (X : Cx g own cc nL R0) {z : Fin 4} {i : Nat} (k : Nat) {x : UInt64} (hk : L[k]? = some (i, .double x)) (hi : (z : Nat) = i) (hd : decode cc pc = .ok (.dload_n z, 1)) (kk : G g c n S (pc + 1) L (.double x :: st)) : G g c n S pc L (st) := by
  obtain ⟨p, l, e, R, s, m, args, below, meth, code, Q, D, B⟩ := g
  obtain ⟨hx, hb, hml, -⟩ := X
  exact fun H locs ls h1 h2 h3 => lv_dload_n hx hb hd hi (lv_at h3 k hk) (kk H locs ls h1 h2 h3)
theorem g_dload (X : Cx g own cc nL R0) {i : Nat} (k : Nat) {x : UInt64} (hk : L[k]? = some (i, .double x)) (hd : decode cc pc = .ok (.dload i, 2)) (kk : G g c n S (pc + 2) L (.double x :: st)) : G g c n S pc L (st) := by
  obtain ⟨p, l, e, R, s, m, args, below, meth, code, Q, D, B⟩ := g
  obtain ⟨hx, hb, hml, -⟩ := X
  exact fun H locs ls h1 h2 h3 => lv_dload hx hb hd (lv_at h3 k hk) (kk H locs ls h1 h2 h3)
theorem g_lload_n (X : Cx g own cc nL R0) {z : Fin 4} {i : Nat} (k : Nat) {x : Int64} (hk : L[k]? = some (i, .long x)) (hi : (z : Nat) = i) (hd : decode cc pc = .ok (.lload_n z, 1)) (kk : G g c n S (pc + 1) L (.long x :: st)) : G g c n S pc L (st) := by
  obtain ⟨p, l, e, R, s, m, args, below, meth, code, Q, D, B⟩ := g
  obtain ⟨hx, hb, hml, -⟩ := X
  exact fun H locs ls h1 h2 h3 => lv_lload_n hx hb hd hi (lv_at h3 k hk) (kk H locs ls h1 h2 h3)
theorem g_lload (X : Cx g own cc nL R0) {i : Nat} (k : Nat) {x : Int64} (hk : L[k]? = some (i, .long x)) (hd : decode cc pc = .ok (.lload i, 2)) (kk : G g c n S (pc + 2) L (.long x :: st)) : G g c n S pc L (st) := by
  obtain ⟨p, l, e, R, s, m, args, below, meth, code, Q, D, B⟩ := g
  obtain ⟨hx, hb, hml, -⟩ := X
  exact fun H locs ls h1 h2 h3 => lv_lload hx hb hd (lv_at h3 k hk) (kk H locs ls h1 h2 h3)
theorem g_aload_n (X : Cx g own cc nL R0) {z : Fin 4} {i : Nat} (k : Nat) {x : Nat} (hk : L[k]? = some (i, .ref x)) (hi : (z : Nat) = i) (hd : decode cc pc = .ok (.aload_n z, 1)) (kk : G g c n S (pc + 1) L (.ref x :: st)) : G g c n S pc L (st) := by
  obtain ⟨p, l, e, R, s, m, args, below, meth, code, Q, D, B⟩ := g
  obtain ⟨hx, hb, hml, -⟩ := X
  exact fun H locs ls h1 h2 h3 => lv_aload_n hx hb hd hi (lv_at h3 k hk) (kk H locs ls h1 h2 h3)
theorem g_aload (X : Cx g own cc nL R0) {i : Nat} (k : Nat) {x : Nat} (hk : L[k]? = some (i, .ref x)) (hd : decode cc pc = .ok (.aload i, 2)) (kk : G g c n S (pc + 2) L (.ref x :: st)) : G g c n S pc L (st) := by
  obtain ⟨p, l, e, R, s, m, args, below, meth, code, Q, D, B⟩ := g
  obtain ⟨hx, hb, hml, -⟩ := X
  exact fun H locs ls h1 h2 h3 => lv_aload hx hb hd (lv_at h3 k hk) (kk H locs ls h1 h2 h3)
theorem g_aload_nN (X : Cx g own cc nL R0) {z : Fin 4} {i : Nat} (k : Nat) (hk : L[k]? = some (i, .null)) (hi : (z : Nat) = i) (hd : decode cc pc = .ok (.aload_n z, 1)) (kk : G g c n S (pc + 1) L (.null :: st)) : G g c n S pc L (st) := by
  obtain ⟨p, l, e, R, s, m, args, below, meth, code, Q, D, B⟩ := g
  obtain ⟨hx, hb, hml, -⟩ := X
  exact fun H locs ls h1 h2 h3 => lv_aload_nN hx hb hd hi (lv_at h3 k hk) (kk H locs ls h1 h2 h3)
theorem g_aloadN (X : Cx g own cc nL R0) {i : Nat} (k : Nat) (hk : L[k]? = some (i, .null)) (hd : decode cc pc = .ok (.aload i, 2)) (kk : G g c n S (pc + 2) L (.null :: st)) : G g c n S pc L (st) := by
  obtain ⟨p, l, e, R, s, m, args, below, meth, code, Q, D, B⟩ := g
  obtain ⟨hx, hb, hml, -⟩ := X
  exact fun H locs ls h1 h2 h3 => lv_aloadN hx hb hd (lv_at h3 k hk) (kk H locs ls h1 h2 h3)
theorem g_istore_n (X : Cx g own cc nL R0) {z : Fin 4} {i : Nat} {x : Int32} (hn : i < nL) (hi : (z : Nat) = i) (hl : (i, Value.int x) :: L.filter (fun q => !(q.1 == i) && !(q.1 + 1 == i && q.2.category == 2)) = L') (hd : decode cc pc = .ok (.istore_n z, 1)) (kk : G g c n S (pc + 1) L' (st)) : G g c n S pc L (.int x :: st) := by
  obtain ⟨p, l, e, R, s, m, args, below, meth, code, Q, D, B⟩ := g
  obtain ⟨hx, hb, hml, -⟩ := X
  exact fun H locs ls h1 h2 h3 => lv_istore_n hx hb hd hi h3 (by rw [hml]; exact hn) hl (fun ls9 h9 => kk H locs ls9 h1 h2 h9)
theorem g_istore (X : Cx g own cc nL R0) {i : Nat} {x : Int32} (hn : i < nL) (hl : (i, Value.int x) :: L.filter (fun q => !(q.1 == i) && !(q.1 + 1 == i && q.2.category == 2)) = L') (hd : decode cc pc = .ok (.istore i, 2)) (kk : G g c n S (pc + 2) L' (st)) : G g c n S pc L (.int x :: st) := by
  obtain ⟨p, l, e, R, s, m, args, below, meth, code, Q, D, B⟩ := g
  obtain ⟨hx, hb, hml, -⟩ := X
  exact fun H locs ls h1 h2 h3 => lv_istore hx hb hd h3 (by rw [hml]; exact hn) hl (fun ls9 h9 => kk H locs ls9 h1 h2 h9)
theorem g_fstore_n (X : Cx g own cc nL R0) {z : Fin 4} {i : Nat} {x : UInt32} (hn : i < nL) (hi : (z : Nat) = i) (hl : (i, Value.float x) :: L.filter (fun q => !(q.1 == i) && !(q.1 + 1 == i && q.2.category == 2)) = L') (hd : decode cc pc = .ok (.fstore_n z, 1)) (kk : G g c n S (pc + 1) L' (st)) : G g c n S pc L (.float x :: st) := by
  obtain ⟨p, l, e, R, s, m, args, below, meth, code, Q, D, B⟩ := g
  obtain ⟨hx, hb, hml, -⟩ := X
  exact fun H locs ls h1 h2 h3 => lv_fstore_n hx hb hd hi h3 (by rw [hml]; exact hn) hl (fun ls9 h9 => kk H locs ls9 h1 h2 h9)
theorem g_fstore (X : Cx g own cc nL R0) {i : Nat} {x : UInt32} (hn : i < nL) (hl : (i, Value.float x) :: L.filter (fun q => !(q.1 == i) && !(q.1 + 1 == i && q.2.category == 2)) = L') (hd : decode cc pc = .ok (.fstore i, 2)) (kk : G g c n S (pc + 2) L' (st)) : G g c n S pc L (.float x :: st) := by
  obtain ⟨p, l, e, R, s, m, args, below, meth, code, Q, D, B⟩ := g
  obtain ⟨hx, hb, hml, -⟩ := X
  exact fun H locs ls h1 h2 h3 => lv_fstore hx hb hd h3 (by rw [hml]; exact hn) hl (fun ls9 h9 => kk H locs ls9 h1 h2 h9)
theorem g_astore_n (X : Cx g own cc nL R0) {z : Fin 4} {i : Nat} {x : Nat} (hn : i < nL) (hi : (z : Nat) = i) (hl : (i, Value.ref x) :: L.filter (fun q => !(q.1 == i) && !(q.1 + 1 == i && q.2.category == 2)) = L') (hd : decode cc pc = .ok (.astore_n z, 1)) (kk : G g c n S (pc + 1) L' (st)) : G g c n S pc L (.ref x :: st) := by
  obtain ⟨p, l, e, R, s, m, args, below, meth, code, Q, D, B⟩ := g
  obtain ⟨hx, hb, hml, -⟩ := X
  exact fun H locs ls h1 h2 h3 => lv_astore_n hx hb hd hi h3 (by rw [hml]; exact hn) hl (fun ls9 h9 => kk H locs ls9 h1 h2 h9)
theorem g_astore (X : Cx g own cc nL R0) {i : Nat} {x : Nat} (hn : i < nL) (hl : (i, Value.ref x) :: L.filter (fun q => !(q.1 == i) && !(q.1 + 1 == i && q.2.category == 2)) = L') (hd : decode cc pc = .ok (.astore i, 2)) (kk : G g c n S (pc + 2) L' (st)) : G g c n S pc L (.ref x :: st) := by
  obtain ⟨p, l, e, R, s, m, args, below, meth, code, Q, D, B⟩ := g
  obtain ⟨hx, hb, hml, -⟩ := X
  exact fun H locs ls h1 h2 h3 => lv_astore hx hb hd h3 (by rw [hml]; exact hn) hl (fun ls9 h9 => kk H locs ls9 h1 h2 h9)
theorem g_astore_nN (X : Cx g own cc nL R0) {z : Fin 4} {i : Nat} (hn : i < nL) (hi : (z : Nat) = i) (hl : (i, Value.null) :: L.filter (fun q => !(q.1 == i) && !(q.1 + 1 == i && q.2.category == 2)) = L') (hd : decode cc pc = .ok (.astore_n z, 1)) (kk : G g c n S (pc + 1) L' (st)) : G g c n S pc L (.null :: st) := by
  obtain ⟨p, l, e, R, s, m, args, below, meth, code, Q, D, B⟩ := g
  obtain ⟨hx, hb, hml, -⟩ := X
  exact fun H locs ls h1 h2 h3 => lv_astore_nN hx hb hd hi h3 (by rw [hml]; exact hn) hl (fun ls9 h9 => kk H locs ls9 h1 h2 h9)
theorem g_astoreN (X : Cx g own cc nL R0) {i : Nat} (hn : i < nL) (hl : (i, Value.null) :: L.filter (fun q => !(q.1 == i) && !(q.1 + 1 == i && q.2.category == 2)) = L') (hd : decode cc pc = .ok (.astore i, 2)) (kk : G g c n S (pc + 2) L' (st)) : G g c n S pc L (.null :: st) := by
  obtain ⟨p, l, e, R, s, m, args, below, meth, code, Q, D, B⟩ := g
  obtain ⟨hx, hb, hml, -⟩ := X
  exact fun H locs ls h1 h2 h3 => lv_astoreN hx hb hd h3 (by rw [hml]; exact hn) hl (fun ls9 h9 => kk H locs ls9 h1 h2 h9)
theorem g_dstore (X : Cx g own cc nL R0) {i : Nat} {x : UInt64} (hn : i + 1 < nL) (hl : (i, Value.double x) :: L.filter (fun q => !(q.1 == i) && (!(q.1 == i + 1) && !(q.1 + 1 == i && q.2.category == 2))) = L') (hd : decode cc pc = .ok (.dstore i, 2)) (kk : G g c n S (pc + 2) L' (st)) : G g c n S pc L (.double x :: st) := by
  obtain ⟨p, l, e, R, s, m, args, below, meth, code, Q, D, B⟩ := g
  obtain ⟨hx, hb, hml, -⟩ := X
  exact fun H locs ls h1 h2 h3 => lv_dstore hx hb hd h3 (by rw [hml]; exact hn) hl (fun ls9 h9 => kk H locs ls9 h1 h2 h9)
theorem g_iinc (X : Cx g own cc nL R0) {i : Nat} {z : Int} {x : Int32} (k : Nat) (v : Int32) (hk : L[k]? = some (i, .int x)) (hv : x + Int32.ofInt z = v) (hn : i < nL) (hl : (i, Value.int v) :: L.filter (fun q => !(q.1 == i) && !(q.1 + 1 == i && q.2.category == 2)) = L') (hd : decode cc pc = .ok (.iinc i z, 3)) (kk : G g c n S (pc + 3) L' (st)) : G g c n S pc L (st) := by
  obtain ⟨p, l, e, R, s, m, args, below, meth, code, Q, D, B⟩ := g
  obtain ⟨hx, hb, hml, -⟩ := X
  exact fun H locs ls h1 h2 h3 => lv_iinc hx hb hd h3 hk hv (by rw [hml]; exact hn) hl (fun ls9 h9 => kk H locs ls9 h1 h2 h9)
theorem g_if_eq (X : Cx g own cc nL R0) {x : Int32} {off : Int} {tgt : Nat} (hd : decode cc pc = .ok (.ifCond .eq off, 3)) (ht : (pc : Int) + off = (tgt : Int)) (kt : x = 0 → G g c n S tgt L (st)) (kf : ¬ x = 0 → G g c n S (pc + 3) L (st)) : G g c n S pc L (.int x :: st) := by
  obtain ⟨p, l, e, R, s, m, args, below, meth, code, Q, D, B⟩ := g
  obtain ⟨hx, hb, hml, -⟩ := X
  exact fun H locs ls h1 h2 h3 => lv_if_eq hx hb hd ht (fun q => kt q H locs ls h1 h2 h3) (fun q => kf q H locs ls h1 h2 h3)
theorem g_if_ne (X : Cx g own cc nL R0) {x : Int32} {off : Int} {tgt : Nat} (hd : decode cc pc = .ok (.ifCond .ne off, 3)) (ht : (pc : Int) + off = (tgt : Int)) (kt : ¬ x = 0 → G g c n S tgt L (st)) (kf : x = 0 → G g c n S (pc + 3) L (st)) : G g c n S pc L (.int x :: st) := by
  obtain ⟨p, l, e, R, s, m, args, below, meth, code, Q, D, B⟩ := g
  obtain ⟨hx, hb, hml, -⟩ := X
  exact fun H locs ls h1 h2 h3 => lv_if_ne hx hb hd ht (fun q => kt q H locs ls h1 h2 h3) (fun q => kf q H locs ls h1 h2 h3)
theorem g_if_lt (X : Cx g own cc nL R0) {x : Int32} {off : Int} {tgt : Nat} (hd : decode cc pc = .ok (.ifCond .lt off, 3)) (ht : (pc : Int) + off = (tgt : Int)) (kt : x < 0 → G g c n S tgt L (st)) (kf : ¬ x < 0 → G g c n S (pc + 3) L (st)) : G g c n S pc L (.int x :: st) := by
  obtain ⟨p, l, e, R, s, m, args, below, meth, code, Q, D, B⟩ := g
  obtain ⟨hx, hb, hml, -⟩ := X
  exact fun H locs ls h1 h2 h3 => lv_if_lt hx hb hd ht (fun q => kt q H locs ls h1 h2 h3) (fun q => kf q H locs ls h1 h2 h3)
theorem g_if_ge (X : Cx g own cc nL R0) {x : Int32} {off : Int} {tgt : Nat} (hd : decode cc pc = .ok (.ifCond .ge off, 3)) (ht : (pc : Int) + off = (tgt : Int)) (kt : 0 ≤ x → G g c n S tgt L (st)) (kf : ¬ 0 ≤ x → G g c n S (pc + 3) L (st)) : G g c n S pc L (.int x :: st) := by
  obtain ⟨p, l, e, R, s, m, args, below, meth, code, Q, D, B⟩ := g
  obtain ⟨hx, hb, hml, -⟩ := X
  exact fun H locs ls h1 h2 h3 => lv_if_ge hx hb hd ht (fun q => kt q H locs ls h1 h2 h3) (fun q => kf q H locs ls h1 h2 h3)
theorem g_if_gt (X : Cx g own cc nL R0) {x : Int32} {off : Int} {tgt : Nat} (hd : decode cc pc = .ok (.ifCond .gt off, 3)) (ht : (pc : Int) + off = (tgt : Int)) (kt : 0 < x → G g c n S tgt L (st)) (kf : ¬ 0 < x → G g c n S (pc + 3) L (st)) : G g c n S pc L (.int x :: st) := by
  obtain ⟨p, l, e, R, s, m, args, below, meth, code, Q, D, B⟩ := g
  obtain ⟨hx, hb, hml, -⟩ := X
  exact fun H locs ls h1 h2 h3 => lv_if_gt hx hb hd ht (fun q => kt q H locs ls h1 h2 h3) (fun q => kf q H locs ls h1 h2 h3)
theorem g_if_le (X : Cx g own cc nL R0) {x : Int32} {off : Int} {tgt : Nat} (hd : decode cc pc = .ok (.ifCond .le off, 3)) (ht : (pc : Int) + off = (tgt : Int)) (kt : x ≤ 0 → G g c n S tgt L (st)) (kf : ¬ x ≤ 0 → G g c n S (pc + 3) L (st)) : G g c n S pc L (.int x :: st) := by
  obtain ⟨p, l, e, R, s, m, args, below, meth, code, Q, D, B⟩ := g
  obtain ⟨hx, hb, hml, -⟩ := X
  exact fun H locs ls h1 h2 h3 => lv_if_le hx hb hd ht (fun q => kt q H locs ls h1 h2 h3) (fun q => kf q H locs ls h1 h2 h3)
theorem g_icmp_eq (X : Cx g own cc nL R0) {x y : Int32} {off : Int} {tgt : Nat} (hd : decode cc pc = .ok (.if_icmp .eq off, 3)) (ht : (pc : Int) + off = (tgt : Int)) (kt : x = y → G g c n S tgt L (st)) (kf : ¬ x = y → G g c n S (pc + 3) L (st)) : G g c n S pc L (.int y :: .int x :: st) := by
  obtain ⟨p, l, e, R, s, m, args, below, meth, code, Q, D, B⟩ := g
  obtain ⟨hx, hb, hml, -⟩ := X
  exact fun H locs ls h1 h2 h3 => lv_icmp_eq hx hb hd ht (fun q => kt q H locs ls h1 h2 h3) (fun q => kf q H locs ls h1 h2 h3)
theorem g_icmp_ne (X : Cx g own cc nL R0) {x y : Int32} {off : Int} {tgt : Nat} (hd : decode cc pc = .ok (.if_icmp .ne off, 3)) (ht : (pc : Int) + off = (tgt : Int)) (kt : ¬ x = y → G g c n S tgt L (st)) (kf : x = y → G g c n S (pc + 3) L (st)) : G g c n S pc L (.int y :: .int x :: st) := by
  obtain ⟨p, l, e, R, s, m, args, below, meth, code, Q, D, B⟩ := g
  obtain ⟨hx, hb, hml, -⟩ := X
  exact fun H locs ls h1 h2 h3 => lv_icmp_ne hx hb hd ht (fun q => kt q H locs ls h1 h2 h3) (fun q => kf q H locs ls h1 h2 h3)
theorem g_icmp_lt (X : Cx g own cc nL R0) {x y : Int32} {off : Int} {tgt : Nat} (hd : decode cc pc = .ok (.if_icmp .lt off, 3)) (ht : (pc : Int) + off = (tgt : Int)) (kt : x < y → G g c n S tgt L (st)) (kf : ¬ x < y → G g c n S (pc + 3) L (st)) : G g c n S pc L (.int y :: .int x :: st) := by
  obtain ⟨p, l, e, R, s, m, args, below, meth, code, Q, D, B⟩ := g
  obtain ⟨hx, hb, hml, -⟩ := X
  exact fun H locs ls h1 h2 h3 => lv_icmp_lt hx hb hd ht (fun q => kt q H locs ls h1 h2 h3) (fun q => kf q H locs ls h1 h2 h3)
theorem g_icmp_ge (X : Cx g own cc nL R0) {x y : Int32} {off : Int} {tgt : Nat} (hd : decode cc pc = .ok (.if_icmp .ge off, 3)) (ht : (pc : Int) + off = (tgt : Int)) (kt : y ≤ x → G g c n S tgt L (st)) (kf : ¬ y ≤ x → G g c n S (pc + 3) L (st)) : G g c n S pc L (.int y :: .int x :: st) := by
  obtain ⟨p, l, e, R, s, m, args, below, meth, code, Q, D, B⟩ := g
  obtain ⟨hx, hb, hml, -⟩ := X
  exact fun H locs ls h1 h2 h3 => lv_icmp_ge hx hb hd ht (fun q => kt q H locs ls h1 h2 h3) (fun q => kf q H locs ls h1 h2 h3)
theorem g_icmp_gt (X : Cx g own cc nL R0) {x y : Int32} {off : Int} {tgt : Nat} (hd : decode cc pc = .ok (.if_icmp .gt off, 3)) (ht : (pc : Int) + off = (tgt : Int)) (kt : y < x → G g c n S tgt L (st)) (kf : ¬ y < x → G g c n S (pc + 3) L (st)) : G g c n S pc L (.int y :: .int x :: st) := by
  obtain ⟨p, l, e, R, s, m, args, below, meth, code, Q, D, B⟩ := g
  obtain ⟨hx, hb, hml, -⟩ := X
  exact fun H locs ls h1 h2 h3 => lv_icmp_gt hx hb hd ht (fun q => kt q H locs ls h1 h2 h3) (fun q => kf q H locs ls h1 h2 h3)
theorem g_icmp_le (X : Cx g own cc nL R0) {x y : Int32} {off : Int} {tgt : Nat} (hd : decode cc pc = .ok (.if_icmp .le off, 3)) (ht : (pc : Int) + off = (tgt : Int)) (kt : x ≤ y → G g c n S tgt L (st)) (kf : ¬ x ≤ y → G g c n S (pc + 3) L (st)) : G g c n S pc L (.int y :: .int x :: st) := by
  obtain ⟨p, l, e, R, s, m, args, below, meth, code, Q, D, B⟩ := g
  obtain ⟨hx, hb, hml, -⟩ := X
  exact fun H locs ls h1 h2 h3 => lv_icmp_le hx hb hd ht (fun q => kt q H locs ls h1 h2 h3) (fun q => kf q H locs ls h1 h2 h3)
theorem g_ifnullR (X : Cx g own cc nL R0) {x : Nat} {off : Int} (hd : decode cc pc = .ok (.ifnull off, 3)) (kk : G g c n S (pc + 3) L (st)) : G g c n S pc L (.ref x :: st) := by
  obtain ⟨p, l, e, R, s, m, args, below, meth, code, Q, D, B⟩ := g
  obtain ⟨hx, hb, hml, -⟩ := X
  exact fun H locs ls h1 h2 h3 => lv_ifnull hx hb hd (kk H locs ls h1 h2 h3)
theorem g_ifnonnullR (X : Cx g own cc nL R0) {x : Nat} {off : Int} {tgt : Nat} (hd : decode cc pc = .ok (.ifnonnull off, 3)) (ht : (pc : Int) + off = (tgt : Int)) (kk : G g c n S tgt L (st)) : G g c n S pc L (.ref x :: st) := by
  obtain ⟨p, l, e, R, s, m, args, below, meth, code, Q, D, B⟩ := g
  obtain ⟨hx, hb, hml, -⟩ := X
  exact fun H locs ls h1 h2 h3 => lv_ifnonnull hx hb hd ht (kk H locs ls h1 h2 h3)
theorem g_ifnullN (X : Cx g own cc nL R0) {off : Int} {tgt : Nat} (hd : decode cc pc = .ok (.ifnull off, 3)) (ht : (pc : Int) + off = (tgt : Int)) (kk : G g c n S tgt L (st)) : G g c n S pc L (.null :: st) := by
  obtain ⟨p, l, e, R, s, m, args, below, meth, code, Q, D, B⟩ := g
  obtain ⟨hx, hb, hml, -⟩ := X
  exact fun H locs ls h1 h2 h3 => lv_ifnullN hx hb hd ht (kk H locs ls h1 h2 h3)
theorem g_ifnonnullN (X : Cx g own cc nL R0) {off : Int} (hd : decode cc pc = .ok (.ifnonnull off, 3)) (kk : G g c n S (pc + 3) L (st)) : G g c n S pc L (.null :: st) := by
  obtain ⟨p, l, e, R, s, m, args, below, meth, code, Q, D, B⟩ := g
  obtain ⟨hx, hb, hml, -⟩ := X
  exact fun H locs ls h1 h2 h3 => lv_ifnonnullN hx hb hd (kk H locs ls h1 h2 h3)
end ROWS
