def gR (g : GX) : Room := g.2.2.2.1
/-- how an answer is returned -/
def eI (v : Int32) : Option Value := some (.int v)
def eV (_ : Unit) : Option Value := none
def eR (v : Option Nat) : Option Value := some (va_rf v)
def eD (v : UInt64) : Option Value := some (.double v)
def eF (v : UInt32) : Option Value := some (.float v)
def SpQ {α : Type} (em : α → Option Value) (D : Dg) (B : Nat) (Rp : α → Mm → Prop) : Array Value → State → Outcome → State → Prop := fun _ st o t => (∃ (v : α) (S' : Mm), o = .returned (em v) ∧ Rp v S' ∧ HP D B S' t.heap) ∧ va_F (fun q => B ≤ q) st t
def SpX (D : Dg) (B : Nat) (Ep : String → Nat → Mm → Prop) : Addr → String → State → State → Prop := fun q E st t => (∃ S' : Mm, Ep E q S' ∧ HP D B S' t.heap) ∧ va_F (fun a => B ≤ a) st t
def SpP (D : Dg) (B : Nat) (as : List Value) (S : Mm) : Array Value → State → Prop := fun a U => a = as.toArray ∧ Kx D B U ∧ HP D B S U.heap
/-- A METHOD'S CONTRACT over the picture: called with 'as' over S it returns v with a picture S' (Rp v S'), or throws the object q of class E (Ep E q S'); it makes at most mc cells of ms slots -/
def Sp {α : Type} (em : α → Option Value) (l : Launch) (D : Dg) (B : Nat) (y : MethodName) (ws : List Cond) (rm : Room) (as : List Value) (S : Mm) (Rp : α → Mm → Prop) (Ep : String → Nat → Mm → Prop) : Prop :=
  l.stackTraces = false → vx_Met l y ws rm (SpP D B as S) (SpQ em D B Rp) (SpX D B Ep) rm.cells rm.slots (fun q => B ≤ q)
def Rt {α : Type} (g : GX) (em : α → Option Value) (Rp : α → Mm → Prop) (Ep : String → Nat → Mm → Prop) : Prop := match g with
  | (_p, _l, _e, R, s, _m, args, below, _meth, _code, Q, D, B) => Q = vx_MQ below (SpQ em D B Rp) (SpX D B Ep) args s R.cells R.slots (fun q => B ≤ q) ∧ B ≤ s.heap.size
/-- an object thrown over the frame at pc -/
def Gx (g : GX) (c n : Nat) (S : Mm) (pc : Nat) (L : List (Nat × Value)) (E : String) (q : Nat) : Prop := match g with
  | (p, l, e, R, s, m, args, below, meth, code, Q, D, B) => ∀ (H : Heap) (locs : List Loc) (ls : Array Slot) (rest : List Value), HP D B S H → va_S (fun q => B ≤ q) s.heap H locs → lv_has ls code.maxLocals L → (∃ ce : Cell, H[q]? = some ce ∧ ce.vm = .none ∧ s.vm.findClass E = some ce.cls) → vx_W p l e R s m args below meth code H locs c n Q (F0 m pc ls rest) q
/-- a level of calls: what frames and locals a method may need -/
abbrev rmL (d mc ms : Nat) : Room := { frames := 8 * d, cells := mc, slots := ms, locals := 200 * d }
theorem SpP.blind {D : Dg} {B : Nat} {as : List Value} {S : Mm} : FrameBlind (SpP D B as S) := fun a _U g mk h => ⟨h.1, h.2.1.blind g mk a, h.2.2⟩
def gX0 (g : GX) : Code := g.2.2.2.2.2.2.2.2.2.1
/-- a contract, by a walk of its body -/
theorem Sp.of {α : Type} {em : α → Option Value} {l : Launch} {D : Dg} {B : Nat} {y : MethodName} {rm : Room} {as : List Value} {S : Mm} {Rp : α → Mm → Prop} {Ep : String → Nat → Mm → Prop} (cc : ByteArray) (nL : Nat) (ret : Option FieldType) (L : List (Nat × Value))
    (hy : plainName y.cls = true) (hlen : (lg_sl as).length ≤ nL) (hL : lv_args 0 as = L)
    (body : ∀ g : GX, Cx g y.cls cc nL rm → Rt g em Rp Ep → (gM g).sig.returnType = ret → (gM g).name = y.name → gl g = l → gD g = D → gB g = B → (∀ x ∈ (gX0 g).exceptionTable.toList, False) → G g 0 0 S 0 L []) : Sp em l D B y (ws_ y cc nL ret) rm as S Rp Ep := by
  intro hl
  refine vx_ofW hy rfl ?_
  intro p e s m args below meth c s₁ Bo hml hex hv
  obtain ⟨rfl, hk, hp⟩ := hv
  have hts := atoms_spec (ws := ws_ y cc nL ret) Bo.pre
  have hts : ∀ w ∈ lw_all, w.before _ s = true := fun w h => hts w (List.mem_cons_of_mem _ h)
  have hown : s.vm.findClass y.cls = some m.cls := findClass_of_methodNamed Bo.named
  have hl0 := lv_entry as (n := nL) hlen
  rw [hL] at hl0
  rw [lg_entry_eq]
  have hB : B ≤ s.heap.size := hp.2.1
  have hnm : meth.name = y.name := (name_of_methodNamed Bo.named Bo.method).1
  refine body (p, l, e, rm, s, m, as.toArray, below, meth, c, _, D, B) ⟨Bo.exec, Bo.bytes, hml, hown, hts, hk, hB, hl, Bo.notSynchronized, rfl⟩ ⟨rfl, hB⟩ Bo.returns hnm rfl rfl rfl hex s.heap [] _ hp va_S.rf (by rw [hml]; exact hl0)
theorem Sp.ofH {α : Type} {em : α → Option Value} {l : Launch} {D : Dg} {B : Nat} {y : MethodName} {rm : Room} {as : List Value} {S : Mm} {Rp : α → Mm → Prop} {Ep : String → Nat → Mm → Prop} (cc : ByteArray) (nL : Nat) (ret : Option FieldType) (hh : List (Nat × Nat × Nat × Nat)) (L : List (Nat × Value))
    (hy : plainName y.cls = true) (hlen : (lg_sl as).length ≤ nL) (hL : lv_args 0 as = L)
    (body : ∀ g : GX, Cx g y.cls cc nL rm → Rt g em Rp Ep → (gM g).sig.returnType = ret → (gM g).name = y.name → gl g = l → gD g = D → gB g = B → (gX0 g).exceptionTable.toList = tableOf hh → G g 0 0 S 0 L []) : Sp em l D B y (wsW_ y cc nL ret hh) rm as S Rp Ep := by
  intro hl
  refine vx_ofWH (hh := hh) hy rfl ?_
  intro p e s m args below meth c s₁ Bo hml hv
  obtain ⟨rfl, hk, hp⟩ := hv
  have hts0 := atoms_spec (ws := wsW_ y cc nL ret hh) Bo.pre
  have hts : ∀ w ∈ lw_all, w.before _ s = true := fun w h => hts0 w (List.mem_cons_of_mem _ h)
  have hown : s.vm.findClass y.cls = some m.cls := findClass_of_methodNamed Bo.named
  have hl0 := lv_entry as (n := nL) hlen
  rw [hL] at hl0
  rw [lg_entry_eq]
  have hB : B ≤ s.heap.size := hp.2.1
  have hnm : meth.name = y.name := (name_of_methodNamed Bo.named Bo.method).1
  refine body (p, l, e, rm, s, m, as.toArray, below, meth, c, _, D, B) ⟨Bo.exec, Bo.bytes, hml, hown, hts, hk, hB, hl, Bo.notSynchronized, rfl⟩ ⟨rfl, hB⟩ Bo.returns hnm rfl rfl rfl ?_ s.heap [] _ hp va_S.rf (by rw [hml]; exact hl0)
  exact vx_table (x := y) Bo (hts0 _ List.mem_cons_self)
section ENDS
variable {α : Type} {em : α → Option Value} {Rp : α → Mm → Prop} {Ep : String → Nat → Mm → Prop}
variable {g : GX} {own : String} {cc : ByteArray} {nL : Nat} {R0 : Room} {c n pc : Nat} {S : Mm} {L L' : List (Nat × Value)} {st : List Value}
theorem g_ireturn {Rp : Int32 → Mm → Prop} (X : Cx g own cc nL R0) (Y : Rt g eI Rp Ep) {ty : FieldType} (hr : (gM g).sig.returnType = some ty) {v : Int32} (hn : narrow ty (.int v) = .int v) (hc : c ≤ R0.cells ∧ n ≤ R0.slots) (hd : decode cc pc = .ok (.ireturn, 1)) (hp : Rp v S) : G g c n S pc L [.int v] := by
  obtain ⟨p, l, e, R, s, m, args, below, meth, code, Q, D, B⟩ := g
  obtain ⟨hx0, hb, hml, hown, hts, hkx, -, -, hlk, hR⟩ := X
  obtain ⟨rfl, hB⟩ := Y
  subst hR
  intro H locs ls h1 h2 h3
  refine W.widen hc.1 hc.2 (vx_ret ?_)
  exact W.zret (v := v) hx0 hb hr hn (fun t ht hW => ⟨⟨v, S, rfl, hp, by rw [ht]; exact h1⟩, h2.F ht⟩) h2.2.2 hd hlk
theorem g_areturn {Rp : Option Nat → Mm → Prop} (X : Cx g own cc nL R0) (Y : Rt g eR Rp Ep) {ty : FieldType} (hr : (gM g).sig.returnType = some ty) (hty : (∃ n, ty = .object n) ∨ ∃ t, ty = .array t) {v : Option Nat} (hc : c ≤ R0.cells ∧ n ≤ R0.slots) (hd : decode cc pc = .ok (.areturn, 1)) (hp : Rp v S) : G g c n S pc L [va_rf v] := by
  obtain ⟨p, l, e, R, s, m, args, below, meth, code, Q, D, B⟩ := g
  obtain ⟨hx0, hb, hml, hown, hts, hkx, -, -, hlk, hR⟩ := X
  obtain ⟨rfl, hB⟩ := Y
  subst hR
  intro H locs ls h1 h2 h3
  refine W.widen hc.1 hc.2 (vx_ret ?_)
  exact W.aret (v := va_rf v) hx0 hb hr hty (va_rf_or v) (fun t ht hW => ⟨⟨v, S, rfl, hp, by rw [ht]; exact h1⟩, h2.F ht⟩) h2.2.2 hd hlk
theorem g_return {Rp : Unit → Mm → Prop} (X : Cx g own cc nL R0) (Y : Rt g eV Rp Ep) (hr : (gM g).sig.returnType = none) (hc : c ≤ R0.cells ∧ n ≤ R0.slots) (hd : decode cc pc = .ok (.return_, 1)) (hp : Rp () S) : G g c n S pc L [] := by
  obtain ⟨p, l, e, R, s, m, args, below, meth, code, Q, D, B⟩ := g
  obtain ⟨hx0, hb, hml, hown, hts, hkx, -, -, hlk, hR⟩ := X
  obtain ⟨rfl, hB⟩ := Y
  subst hR
  intro H locs ls h1 h2 h3
  refine W.widen hc.1 hc.2 (vx_ret ?_)
  exact W.vret hx0 hb hr (fun t ht hW => ⟨⟨(), S, rfl, hp, by rw [ht]; exact h1⟩, h2.F ht⟩) h2.2.2 hd hlk
theorem g_athrow (X : Cx g own cc nL R0) {E : String} {q : Nat} {ci : Nat} {T : u_T} {N : Nat} (ck : mm_C ci E T N) (hK : mm_K S q = some (.inl ci)) (hd : decode cc pc = .ok (.athrow, 1)) (kk : Gx g c n S pc L E q) : G g c n S pc L (.ref q :: st) := by
  obtain ⟨p, l, e, R, s, m, args, below, meth, code, Q, D, B⟩ := g
  obtain ⟨hx0, hb, hml, hown, hts, hkx, -, -, hlk, hR⟩ := X
  intro H locs ls h1 h2 h3
  refine vx_athrow hx0 hb hd (kk H locs ls st h1 h2 h3 ?_)
  obtain ⟨r, hr, cell, g1, g2, g3, -⟩ := (h1.2.2 _ _ hK).1
  cases Option.some.inj (hr.symm.trans ck.1)
  exact ⟨cell, g1, g3, by rw [g2]; exact (hkx.1.1 ci _ ck.1).2.1⟩
theorem g_out (X : Cx g own cc nL R0) (Y : Rt g em Rp Ep) (hex : ∀ x ∈ (gX0 g).exceptionTable.toList, covers x pc = false) {E : String} {q : Nat} (hc : c ≤ R0.cells ∧ n ≤ R0.slots) (hp : Ep E q S) : Gx g c n S pc L E q := by
  obtain ⟨p, l, e, R, s, m, args, below, meth, code, Q, D, B⟩ := g
  obtain ⟨hx0, hb, hml, hown, hts, hkx, -, -, hlk, hR⟩ := X
  obtain ⟨rfl, hB⟩ := Y
  subst hR
  intro H locs ls rest h1 h2 h3 h4
  obtain ⟨ce, e1, e2, e3⟩ := h4
  exact vx_out hex hlk e1 e2 e3 (fun t ht hW => ⟨⟨S, hp, by rw [ht]; exact h1⟩, h2.F ht⟩) h2.2.2 hc.1 hc.2
end ENDS
section CALL
variable {α : Type} {em : α → Option Value} {Rp : α → Mm → Prop} {Ep : String → Nat → Mm → Prop}
variable {g : GX} {own : String} {cc : ByteArray} {nL : Nat} {R0 : Room} {c n pc : Nat} {S : Mm} {L L' : List (Nat × Value)} {st : List Value}
/-- behind a call: what it returned, or threw, over the picture that it left -/
theorem g_of_run {mc ms : Nat} {rest st0 : List Value} {a : Array Value} (hr : match g with
    | (p, l, e, R, s, m, args, below, meth, code, Q, D, B) => ∀ (H : Heap) (locs : List Loc) (ls : Array Slot), HP D B S H → va_S (fun q => B ≤ q) s.heap H locs → lv_has ls code.maxLocals L → vx_Run p l e R s m args below meth code H locs c n mc ms (F0 m pc ls st0) rest (SpQ em D B Rp a) (SpX D B Ep) (fun q => B ≤ q))
    (kx : ∀ (E : String) (q : Nat) (S' : Mm), Ep E q S' → Gx g (c + mc) (n + ms) S' pc L E q) (kk : ∀ (v : α) (S' : Mm), Rp v S' → G g (c + mc) (n + ms) S' (pc + 3) L ((em v).toList ++ rest)) : G g c n S pc L st0 := by
  obtain ⟨p, l, e, R, s, m, args, below, meth, code, Q, D, B⟩ := g
  intro H locs ls h1 h2 h3 T hT X
  rcases hr H locs ls h1 h2 h3 T hT X with ⟨v, st₀, t, T', L9, h0, X', hL, e1, e2, ⟨⟨r, S', hv, hp, hb⟩, hF⟩, st⟩ | ⟨q, st₀, t, T', L9, E, ce, h0, X', hL, e1, e2, ⟨⟨S', hp, hb⟩, hF⟩, hce, hcv, hcl, st⟩
  · cases hv
    obtain ⟨k1, k2, k3⟩ := vx_keep h0 e1 h2 (fun _ _ z => z) (fun _ z => z) hL hF
    obtain ⟨t2, a1, b1⟩ := kk r S' hp T'.heap (locs ++ L9) ls (by rw [e1]; exact hb) k3 h3 T' rfl X'
    exact ⟨t2, st t2 a1, b1⟩
  · obtain ⟨k1, k2, k3⟩ := vx_keep h0 e1 h2 (fun _ _ z => z) (fun _ z => z) hL hF
    obtain ⟨t2, a1, b1⟩ := kx E q S' hp T'.heap (locs ++ L9) ls rest (by rw [e1]; exact hb) k3 h3 ⟨ce, by rw [e1]; exact hce, hcv, hcl⟩ T' rfl X'
    exact ⟨t2, st.trans a1, b1⟩
theorem mm_preS {D : Dg} {B : Nat} {s : State} {H : Heap} {locs : List Loc} {as : List Value} (hkx : Kx D B s) (h1 : HP D B S H) (h2 : va_S (fun q => B ≤ q) s.heap H locs) : PreS s H (SpP D B as S) as :=
  ⟨SpP.blind, fun U hU hW => ⟨rfl, hkx.moved hW (by rw [hU]; exact h2), by rw [hU]; exact h1⟩⟩
theorem mm_preV {D : Dg} {B : Nat} {s : State} {H : Heap} {locs : List Loc} {as : List Value} {b ci : Nat} {C : String} {T : u_T} {N : Nat} (ck : mm_C ci C T N) (hK : mm_K S b = some (.inl ci)) (hkx : Kx D B s) (h1 : HP D B S H) (h2 : va_S (fun q => B ≤ q) s.heap H locs) : PreV s H C b (SpP D B (.ref b :: as) S) as :=
  ⟨SpP.blind, mm_recv hkx h1 ck hK, fun U hU hW => ⟨rfl, hkx.moved hW (by rw [hU]; exact h2), by rw [hU]; exact h1⟩⟩
theorem g_of_run5 {mc ms : Nat} {rest st0 : List Value} {a : Array Value} (hr : match g with
    | (p, l, e, R, s, m, args, below, meth, code, Q, D, B) => ∀ (H : Heap) (locs : List Loc) (ls : Array Slot), HP D B S H → va_S (fun q => B ≤ q) s.heap H locs → lv_has ls code.maxLocals L → vx_Run5 p l e R s m args below meth code H locs c n mc ms (F0 m pc ls st0) rest (SpQ em D B Rp a) (SpX D B Ep) (fun q => B ≤ q))
    (kx : ∀ (E : String) (q : Nat) (S' : Mm), Ep E q S' → Gx g (c + mc) (n + ms) S' pc L E q) (kk : ∀ (v : α) (S' : Mm), Rp v S' → G g (c + mc) (n + ms) S' (pc + 5) L ((em v).toList ++ rest)) : G g c n S pc L st0 := by
  obtain ⟨p, l, e, R, s, m, args, below, meth, code, Q, D, B⟩ := g
  intro H locs ls h1 h2 h3 T hT X
  rcases hr H locs ls h1 h2 h3 T hT X with ⟨v, st₀, t, T', L9, h0, X', hL, e1, e2, ⟨⟨r, S', hv, hp, hb⟩, hF⟩, st⟩ | ⟨q, st₀, t, T', L9, E, ce, h0, X', hL, e1, e2, ⟨⟨S', hp, hb⟩, hF⟩, hce, hcv, hcl, st⟩
  · cases hv
    obtain ⟨k1, k2, k3⟩ := vx_keep h0 e1 h2 (fun _ _ z => z) (fun _ z => z) hL hF
    obtain ⟨t2, a1, b1⟩ := kk r S' hp T'.heap (locs ++ L9) ls (by rw [e1]; exact hb) k3 h3 T' rfl X'
    exact ⟨t2, st t2 a1, b1⟩
  · obtain ⟨k1, k2, k3⟩ := vx_keep h0 e1 h2 (fun _ _ z => z) (fun _ z => z) hL hF
    obtain ⟨t2, a1, b1⟩ := kx E q S' hp T'.heap (locs ++ L9) ls rest (by rw [e1]; exact hb) k3 h3 ⟨ce, by rw [e1]; exact hce, hcv, hcl⟩ T' rfl X'
    exact ⟨t2, st.trans a1, b1⟩
variable {C host : String} {T : u_T} {N ci index count maxL : Nat} {x y : MethodName} {bytes : ByteArray} {ret : Option FieldType} {rm : Room} {as st0 : List Value} {b : Nat} {hh : List (Nat × Nat × Nat × Nat)}
abbrev mm_np (y : MethodName) (k : Nat) : Prop := y.cls ≠ "java/lang/invoke/MethodHandle" ∧ y.cls ≠ "java/lang/invoke/VarHandle" ∧ (parseMethodDescriptor y.desc).map (fun d => d.parameters.length) = some k
abbrev mm_rm (rm R0 : Room) (maxL c n : Nat) : Prop := (rm.frames + 1 ≤ R0.frames ∧ 8 + (maxL + 11) + rm.locals ≤ R0.locals) ∧ c + rm.cells ≤ R0.cells ∧ n + rm.slots ≤ R0.slots
theorem g_callV (X : Cx g own cc nL R0) (hM : Sp em (gl g) (gD g) (gB g) y (ws_ y bytes maxL ret) rm (.ref b :: as) S Rp Ep) (q1 : Cond.methodLink own index y ∈ lw_all) (q2 : Cond.instanceMethod y ∈ lw_all) (q3 : Cond.selects C y y ∈ lw_all) (q4 : Cond.initialized C ∈ lw_all) (q5 : Cond.code y bytes maxL ret ∈ lw_all) (hn : y.cls = C ∧ mm_np y as.length) (hR : mm_rm rm R0 maxL c n) (ck : mm_C ci C T N) (hK : mm_K S b = some (.inl ci)) (hst : st0 = as.reverse ++ .ref b :: st) (hw : (st.map fun v => v.category).sum ≤ 8) (hd : decode cc pc = .ok (.invokevirtual index, 3)) (kx : ∀ (E : String) (q : Nat) (S' : Mm), Ep E q S' → Gx g (c + rm.cells) (n + rm.slots) S' pc L E q) (kk : ∀ (v : α) (S' : Mm), Rp v S' → G g (c + rm.cells) (n + rm.slots) S' (pc + 3) L ((em v).toList ++ st)) : G g c n S pc L st0 := by
  refine g_of_run (a := ((.ref b :: as) : List Value).toArray) ?_ kx kk
  obtain ⟨p, l, e, R, s, m, args, below, meth, code, Q, D, B⟩ := g
  obtain ⟨hx0, hb, hml, hown, hts, hkx, -, hlf, -, hRe⟩ := X
  subst hRe
  subst hst
  intro H locs ls h1 h2 h3
  exact vx_runV ⟨hx0, hb, hml, hown, hts⟩ (hM hlf) (cwV as.length hts (lw_V q1 q2 q3 q4 q5) rfl rfl rfl hn hR.1) (mm_preV ck hK hkx h1 h2) rfl rfl (h3.1.trans hml) rfl (lv_room hw) hd hR.2
theorem g_callVX (X : Cx g own cc nL R0) (hM : Sp em (gl g) (gD g) (gB g) y (wsW_ y bytes maxL ret hh) rm (.ref b :: as) S Rp Ep) (q1 : Cond.methodLink own index y ∈ lw_all) (q2 : Cond.instanceMethod y ∈ lw_all) (q3 : Cond.selects C y y ∈ lw_all) (q4 : Cond.initialized C ∈ lw_all) (q5 : Cond.codeWith y bytes maxL ret hh ∈ lw_all) (hn : y.cls = C ∧ mm_np y as.length) (hR : mm_rm rm R0 maxL c n) (ck : mm_C ci C T N) (hK : mm_K S b = some (.inl ci)) (hst : st0 = as.reverse ++ .ref b :: st) (hw : (st.map fun v => v.category).sum ≤ 8) (hd : decode cc pc = .ok (.invokevirtual index, 3)) (kx : ∀ (E : String) (q : Nat) (S' : Mm), Ep E q S' → Gx g (c + rm.cells) (n + rm.slots) S' pc L E q) (kk : ∀ (v : α) (S' : Mm), Rp v S' → G g (c + rm.cells) (n + rm.slots) S' (pc + 3) L ((em v).toList ++ st)) : G g c n S pc L st0 := by
  refine g_of_run (a := ((.ref b :: as) : List Value).toArray) ?_ kx kk
  obtain ⟨p, l, e, R, s, m, args, below, meth, code, Q, D, B⟩ := g
  obtain ⟨hx0, hb, hml, hown, hts, hkx, -, hlf, -, hRe⟩ := X
  subst hRe
  subst hst
  intro H locs ls h1 h2 h3
  exact vx_runVX ⟨hx0, hb, hml, hown, hts⟩ (hM hlf) (vx_cwVW as.length hts (lw_VW q1 q2 q3 q4 q5) rfl rfl rfl hn hR.1) (mm_preV ck hK hkx h1 h2) rfl rfl (h3.1.trans hml) rfl (lv_room hw) hd hR.2
theorem g_callS (X : Cx g own cc nL R0) (hM : Sp em (gl g) (gD g) (gB g) y (ws_ y bytes maxL ret) rm as S Rp Ep) (q1 : Cond.methodLink own index y ∈ lw_all) (q2 : Cond.static y ∈ lw_all) (q3 : Cond.initialized y.cls ∈ lw_all) (q5 : Cond.code y bytes maxL ret ∈ lw_all) (hn : mm_np y as.length) (hR : mm_rm rm R0 maxL c n) (hst : st0 = as.reverse ++ st) (hw : (st.map fun v => v.category).sum ≤ 8) (hd : decode cc pc = .ok (.invokestatic index, 3)) (kx : ∀ (E : String) (q : Nat) (S' : Mm), Ep E q S' → Gx g (c + rm.cells) (n + rm.slots) S' pc L E q) (kk : ∀ (v : α) (S' : Mm), Rp v S' → G g (c + rm.cells) (n + rm.slots) S' (pc + 3) L ((em v).toList ++ st)) : G g c n S pc L st0 := by
  refine g_of_run (a := (as : List Value).toArray) ?_ kx kk
  obtain ⟨p, l, e, R, s, m, args, below, meth, code, Q, D, B⟩ := g
  obtain ⟨hx0, hb, hml, hown, hts, hkx, -, hlf, -, hRe⟩ := X
  subst hRe
  subst hst
  intro H locs ls h1 h2 h3
  exact vx_runS ⟨hx0, hb, hml, hown, hts⟩ (hM hlf) (va_cwS as.length hts (lw_S q1 q2 q3 q5) rfl rfl rfl hn hR.1) (mm_preS hkx h1 h2) rfl rfl (h3.1.trans hml) rfl (lv_room hw) hd hR.2
theorem g_callSX (X : Cx g own cc nL R0) (hM : Sp em (gl g) (gD g) (gB g) y (wsW_ y bytes maxL ret hh) rm as S Rp Ep) (q1 : Cond.methodLink own index y ∈ lw_all) (q2 : Cond.static y ∈ lw_all) (q3 : Cond.initialized y.cls ∈ lw_all) (q5 : Cond.codeWith y bytes maxL ret hh ∈ lw_all) (hn : mm_np y as.length) (hR : mm_rm rm R0 maxL c n) (hst : st0 = as.reverse ++ st) (hw : (st.map fun v => v.category).sum ≤ 8) (hd : decode cc pc = .ok (.invokestatic index, 3)) (kx : ∀ (E : String) (q : Nat) (S' : Mm), Ep E q S' → Gx g (c + rm.cells) (n + rm.slots) S' pc L E q) (kk : ∀ (v : α) (S' : Mm), Rp v S' → G g (c + rm.cells) (n + rm.slots) S' (pc + 3) L ((em v).toList ++ st)) : G g c n S pc L st0 := by
  refine g_of_run (a := (as : List Value).toArray) ?_ kx kk
  obtain ⟨p, l, e, R, s, m, args, below, meth, code, Q, D, B⟩ := g
  obtain ⟨hx0, hb, hml, hown, hts, hkx, -, hlf, -, hRe⟩ := X
  subst hRe
  subst hst
  intro H locs ls h1 h2 h3
  exact vx_runSX ⟨hx0, hb, hml, hown, hts⟩ (hM hlf) (vx_cwSW as.length hts (lw_SW q1 q2 q3 q5) rfl rfl rfl hn hR.1) (mm_preS hkx h1 h2) rfl rfl (h3.1.trans hml) rfl (lv_room hw) hd hR.2
theorem g_callVN (X : Cx g own cc nL R0) (hM : Sp em (gl g) (gD g) (gB g) y (ws_ y bytes maxL ret) rm (.ref b :: as) S Rp Ep) (q1 : Cond.methodLinkNest own index y host ∈ lw_tbl) (q2 : Cond.instanceMethod y ∈ lw_all) (q3 : Cond.selects C y y ∈ lw_all) (q4 : Cond.initialized y.cls ∈ lw_all) (q5 : Cond.code y bytes maxL ret ∈ lw_all) (hn : mm_np y as.length) (hR : mm_rm rm R0 maxL c n) (ck : mm_C ci C T N) (hK : mm_K S b = some (.inl ci)) (hst : st0 = as.reverse ++ .ref b :: st) (hw : (st.map fun v => v.category).sum ≤ 8) (hd : decode cc pc = .ok (.invokevirtual index, 3)) (kx : ∀ (E : String) (q : Nat) (S' : Mm), Ep E q S' → Gx g (c + rm.cells) (n + rm.slots) S' pc L E q) (kk : ∀ (v : α) (S' : Mm), Rp v S' → G g (c + rm.cells) (n + rm.slots) S' (pc + 3) L ((em v).toList ++ st)) : G g c n S pc L st0 := by
  refine g_of_run (a := ((.ref b :: as) : List Value).toArray) ?_ kx kk
  obtain ⟨p, l, e, R, s, m, args, below, meth, code, Q, D, B⟩ := g
  obtain ⟨hx0, hb, hml, hown, hts, hkx, -, hlf, -, hRe⟩ := X
  subst hRe
  subst hst
  intro H locs ls h1 h2 h3
  exact vx_runVN ⟨hx0, hb, hml, hown, hts⟩ (hM hlf) ⟨va_cnB as.length hts (lw_meth q5) rfl rfl rfl (hkx.2.2.2.1 _ q1 rfl) (hts _ q4) hn hR.1, hts _ q2, hts _ q3⟩ (mm_preV ck hK hkx h1 h2) rfl rfl (h3.1.trans hml) rfl (lv_room hw) hd hR.2
theorem g_callSN (X : Cx g own cc nL R0) (hM : Sp em (gl g) (gD g) (gB g) y (ws_ y bytes maxL ret) rm as S Rp Ep) (q1 : Cond.methodLinkNest own index y host ∈ lw_tbl) (q2 : Cond.static y ∈ lw_all) (q4 : Cond.initialized y.cls ∈ lw_all) (q5 : Cond.code y bytes maxL ret ∈ lw_all) (hn : mm_np y as.length) (hR : mm_rm rm R0 maxL c n) (hst : st0 = as.reverse ++ st) (hw : (st.map fun v => v.category).sum ≤ 8) (hd : decode cc pc = .ok (.invokestatic index, 3)) (kx : ∀ (E : String) (q : Nat) (S' : Mm), Ep E q S' → Gx g (c + rm.cells) (n + rm.slots) S' pc L E q) (kk : ∀ (v : α) (S' : Mm), Rp v S' → G g (c + rm.cells) (n + rm.slots) S' (pc + 3) L ((em v).toList ++ st)) : G g c n S pc L st0 := by
  refine g_of_run (a := (as : List Value).toArray) ?_ kx kk
  obtain ⟨p, l, e, R, s, m, args, below, meth, code, Q, D, B⟩ := g
  obtain ⟨hx0, hb, hml, hown, hts, hkx, -, hlf, -, hRe⟩ := X
  subst hRe
  subst hst
  intro H locs ls h1 h2 h3
  exact vx_runSN ⟨hx0, hb, hml, hown, hts⟩ (hM hlf) ⟨va_cnB as.length hts (lw_meth q5) rfl rfl rfl (hkx.2.2.2.1 _ q1 rfl) (hts _ q4) hn hR.1, hts _ q2, trivial⟩ (mm_preS hkx h1 h2) rfl rfl (h3.1.trans hml) rfl (lv_room hw) hd hR.2
theorem g_callIN (X : Cx g own cc nL R0) (hM : Sp em (gl g) (gD g) (gB g) y (ws_ y bytes maxL none) rm (.ref b :: as) S Rp Ep) (q1 : Cond.methodLinkNest own index y host ∈ lw_tbl) (q2 : Cond.instanceMethod y ∈ lw_all) (q4 : Cond.initialized y.cls ∈ lw_all) (q5 : Cond.code y bytes maxL none ∈ lw_all) (hn : mm_np y as.length) (hi : y.name = "<init>") (hR : mm_rm rm R0 maxL c n) (hst : st0 = as.reverse ++ .ref b :: st) (hw : (st.map fun v => v.category).sum ≤ 8) (hd : decode cc pc = .ok (.invokespecial index, 3)) (kx : ∀ (E : String) (q : Nat) (S' : Mm), Ep E q S' → Gx g (c + rm.cells) (n + rm.slots) S' pc L E q) (kk : ∀ (v : α) (S' : Mm), Rp v S' → G g (c + rm.cells) (n + rm.slots) S' (pc + 3) L ((em v).toList ++ st)) : G g c n S pc L st0 := by
  refine g_of_run (a := ((.ref b :: as) : List Value).toArray) ?_ kx kk
  obtain ⟨p, l, e, R, s, m, args, below, meth, code, Q, D, B⟩ := g
  obtain ⟨hx0, hb, hml, hown, hts, hkx, -, hlf, -, hRe⟩ := X
  subst hRe
  subst hst
  intro H locs ls h1 h2 h3
  exact vx_runIN ⟨hx0, hb, hml, hown, hts⟩ (hM hlf) ⟨va_cnB as.length hts (lw_meth q5) rfl rfl rfl (hkx.2.2.2.1 _ q1 rfl) (hts _ q4) hn hR.1, hi, hts _ q2⟩ (mm_preS hkx h1 h2) rfl rfl (h3.1.trans hml) rfl (lv_room hw) hd hR.2
theorem g_callI (X : Cx g own cc nL R0) (hM : Sp em (gl g) (gD g) (gB g) y (ws_ y bytes maxL none) rm (.ref b :: as) S Rp Ep) (q1 : Cond.methodLink own index y ∈ lw_all) (q2 : Cond.instanceMethod y ∈ lw_all) (q4 : Cond.initialized y.cls ∈ lw_all) (q5 : Cond.code y bytes maxL none ∈ lw_all) (hn : mm_np y as.length) (hi : y.name = "<init>") (hR : mm_rm rm R0 maxL c n) (hst : st0 = as.reverse ++ .ref b :: st) (hw : (st.map fun v => v.category).sum ≤ 8) (hd : decode cc pc = .ok (.invokespecial index, 3)) (kx : ∀ (E : String) (q : Nat) (S' : Mm), Ep E q S' → Gx g (c + rm.cells) (n + rm.slots) S' pc L E q) (kk : ∀ (v : α) (S' : Mm), Rp v S' → G g (c + rm.cells) (n + rm.slots) S' (pc + 3) L ((em v).toList ++ st)) : G g c n S pc L st0 := by
  refine g_of_run (a := ((.ref b :: as) : List Value).toArray) ?_ kx kk
  obtain ⟨p, l, e, R, s, m, args, below, meth, code, Q, D, B⟩ := g
  obtain ⟨hx0, hb, hml, hown, hts, hkx, -, hlf, -, hRe⟩ := X
  subst hRe
  subst hst
  intro H locs ls h1 h2 h3
  exact vx_runI ⟨hx0, hb, hml, hown, hts⟩ (hM hlf) ⟨callB_of as.length hts (lw_meth q5) rfl rfl rfl (hts _ q4) (hts _ q1) hn hR.1, hi, hts _ q2⟩ (mm_preS hkx h1 h2) rfl rfl (h3.1.trans hml) rfl (lv_room hw) hd hR.2
theorem g_callU (X : Cx g own cc nL R0) (hM : Sp em (gl g) (gD g) (gB g) y (ws_ y bytes maxL ret) rm (.ref b :: as) S Rp Ep) (q1 : Cond.methodLink own index x ∈ lw_all) (qs : Cond.sameMethod x.cls y.cls x.name x.desc ∈ lw_all) (q3 : Cond.selects C x y ∈ lw_all) (q2 : Cond.instanceMethod y ∈ lw_all) (q4 : Cond.initialized y.cls ∈ lw_all) (q5 : Cond.code y bytes maxL ret ∈ lw_all) (hn : mm_np y as.length) (hyx : y = ⟨y.cls, x.name, x.desc⟩) (hR : mm_rm rm R0 maxL c n) (ck : mm_C ci C T N) (hK : mm_K S b = some (.inl ci)) (hst : st0 = as.reverse ++ .ref b :: st) (hw : (st.map fun v => v.category).sum ≤ 8) (hd : decode cc pc = .ok (.invokevirtual index, 3)) (kx : ∀ (E : String) (q : Nat) (S' : Mm), Ep E q S' → Gx g (c + rm.cells) (n + rm.slots) S' pc L E q) (kk : ∀ (v : α) (S' : Mm), Rp v S' → G g (c + rm.cells) (n + rm.slots) S' (pc + 3) L ((em v).toList ++ st)) : G g c n S pc L st0 := by
  refine g_of_run (a := ((.ref b :: as) : List Value).toArray) ?_ kx kk
  obtain ⟨p, l, e, R, s, m, args, below, meth, code, Q, D, B⟩ := g
  obtain ⟨hx0, hb, hml, hown, hts, hkx, -, hlf, -, hRe⟩ := X
  subst hRe
  subst hst
  intro H locs ls h1 h2 h3
  exact vx_runU (owner := y.cls) ⟨hx0, hb, hml, hown, hts⟩ (hM hlf) (va_cwU as.length hts (lw_app (by intro w hw9; simp only [List.mem_cons, List.not_mem_nil, or_false] at hw9; rcases hw9 with e | e | e | e | e <;> (rw [e]; assumption)) (lw_meth q5)) rfl rfl rfl hyx (by rw [hyx] at hn; exact hn) hR.1) (mm_preV ck hK hkx h1 h2) rfl rfl (h3.1.trans hml) rfl (lv_room hw) hd hR.2
theorem g_callF (X : Cx g own cc nL R0) (hM : Sp em (gl g) (gD g) (gB g) y (ws_ y bytes maxL ret) rm (.ref b :: as) S Rp Ep) (hF : (C, x, y) ∈ mm_faces) (q1 : Cond.methodLink own index x ∈ lw_all) (q3 : Cond.selects C x y ∈ lw_all) (q2 : Cond.instanceMethod y ∈ lw_all) (q4 : Cond.initialized y.cls ∈ lw_all) (q5 : Cond.code y bytes maxL ret ∈ lw_all) (hn : mm_np x as.length) (hR : mm_rm rm R0 maxL c n) (ck : mm_C ci C T N) (hK : mm_K S b = some (.inl ci)) (hst : st0 = as.reverse ++ .ref b :: st) (hw : (st.map fun v => v.category).sum ≤ 8) (hd : decode cc pc = .ok (.invokeinterface index count, 5)) (kx : ∀ (E : String) (q : Nat) (S' : Mm), Ep E q S' → Gx g (c + rm.cells) (n + rm.slots) S' pc L E q) (kk : ∀ (v : α) (S' : Mm), Rp v S' → G g (c + rm.cells) (n + rm.slots) S' (pc + 5) L ((em v).toList ++ st)) : G g c n S pc L st0 := by
  refine g_of_run5 (a := ((.ref b :: as) : List Value).toArray) ?_ kx kk
  obtain ⟨p, l, e, R, s, m, args, below, meth, code, Q, D, B⟩ := g
  obtain ⟨hx0, hb, hml, hown, hts, hkx, -, hlf, -, hRe⟩ := X
  subst hRe
  subst hst
  intro H locs ls h1 h2 h3
  exact vx_runF (hkx.1.1 ci _ ck.1).2 ⟨hx0, hb, hml, hown, hts⟩ (hM hlf) (va_cwF as.length hts (lw_app (by intro w hw9; simp only [List.mem_cons, List.not_mem_nil, or_false] at hw9; rcases hw9 with e | e | e | e <;> (rw [e]; assumption)) (lw_meth q5)) rfl rfl rfl (hkx.2.2.1 _ hF) hn hR.1) (mm_preV ck hK hkx h1 h2) rfl rfl (h3.1.trans hml) rfl (lv_room hw) hd hR.2
end CALL
/-- the words of a list by their places: good ones, and nest mates' and casts -/
theorem lw_in2 (ws : List Cond) (ps : List Nat) (hp : ws = ps.filterMap (fun i => lw_tbl[i]?)) (hg : ws.all (fun w => goodWord w || mm_nest w) = true) : ∀ w ∈ ws, w ∈ lw_all ∨ (w ∈ lw_tbl ∧ mm_nest w = true) := by
  intro w h
  have h1 := List.all_eq_true.mp hg w h
  rw [hp] at h
  obtain ⟨i, -, hi⟩ := List.mem_filterMap.mp h
  have hm : w ∈ lw_tbl := List.mem_of_getElem? hi
  cases hgw : goodWord w with
  | true => exact Or.inl (lw_g hm hgw)
  | false => exact Or.inr ⟨hm, by rw [hgw] at h1; exact h1⟩
section THROW
variable {α : Type} {em : α → Option Value} {Rp : α → Mm → Prop} {Ep : String → Nat → Mm → Prop}
variable {g : GX} {own : String} {cc : ByteArray} {nL : Nat} {R0 : Room} {c n pc : Nat} {S : Mm} {L L' : List (Nat × Value)} {st : List Value}
/-- new X(); throw it, out of this method -/
theorem g_throw0 (X : Cx g own cc nL R0) (Y : Rt g em Rp Ep) {cls : String} {names : List String} {ik ic : Nat} (hcls : Bundle.fit cls = true) (hnames : ∀ n ∈ names, Bundle.fit n = true) (hk : Cond.classLink own ik cls ∈ lw_all) (hini : Cond.initialized cls ∈ lw_all) (hat : ∀ w ∈ vx_at0 own ic cls names, w ∈ lw_all ∨ (w ∈ lw_tbl ∧ mm_nest w = true)) (hgood : ∀ w ∈ Cond.classLink own ik cls :: Cond.initialized cls :: vx_at0 own ic cls names, vx_ot w = true)
    (d0 : decode cc pc = .ok (.new ik, 3)) (d3 : decode cc (pc + 3) = .ok (.dup, 1)) (d4 : decode cc (pc + 4) = .ok (.invokespecial ic, 3)) (d7 : decode cc (pc + 7) = .ok (.athrow, 1)) (hout : ∀ x ∈ (gX0 g).exceptionTable.toList, covers x (pc + 7) = false)
    (hR : names.length + 3 < R0.frames ∧ (st.map fun v => v.category).sum + (13 * (names.length + 1) + 42) ≤ R0.locals) (hc : c + 1 ≤ R0.cells ∧ n + 6 ≤ R0.slots) (hp : ∀ n', mm_N S ≤ n' → Ep cls (mm_N S) (mm_up S n')) : G g c n S pc L st := by
  obtain ⟨p, l, e, R, s, m, args, below, meth, code, Q, D, B⟩ := g
  obtain ⟨hx0, hb, hml, hown, hts, hkx, -, hlf, hlk, hRe⟩ := X
  obtain ⟨rfl, hB⟩ := Y
  subst hRe
  intro H locs ls h1 h2 h3
  refine vx_throw0 hx0 hb hlf hown hcls hnames (hts _ hk) (hts _ hini) (fun w hw => ?_) hgood hkx.2.2.2.2.1 hkx.2.2.2.2.2.1 h2 h3.1 d0 d3 d4 d7 hout hR.1 hR.2 hc.1 hc.2 hlk (fun ce t e1 e2 e3 hAl hz hq => ⟨⟨mm_up S t.heap.size, ?_, h1.up hz hq⟩, ?_⟩) h2.2.2 hc.1 hc.2
  · rcases hat w hw with h | ⟨h, hn⟩
    · exact hts _ h
    · have h9 := hkx.2.2.2.1 w h hn
      have ho : w.onTables = true := by
        cases w <;> first | rfl | exact Bool.noConfusion (show false = true from hn)
      exact va_Nw.use ho h9
  · have h9 := hp t.heap.size (by rw [h1.1]; exact hz)
    rw [h1.1] at h9
    exact h9
  · exact ⟨Nat.le_trans h2.1 hz, fun q g1 g2 => (hq q (Nat.lt_of_lt_of_le g1 h2.1)).trans (h2.2.1 q g1 g2)⟩
/-- out of this method, past handlers of other classes -/
theorem g_outP (X : Cx g own cc nL R0) (Y : Rt g em Rp Ep) {E : String} {q : Nat} (hpass : ∀ z ∈ (gX0 g).exceptionTable.toList, covers z pc = false ∨ (z.catchType ≠ 0 ∧ ∃ nm : String, Cond.classLink own z.catchType nm ∈ lw_all ∧ (E, nm) ∈ mm_ncs)) (hc : c ≤ R0.cells ∧ n ≤ R0.slots) (hp : Ep E q S) : Gx g c n S pc L E q := by
  obtain ⟨p, l, e, R, s, m, args, below, meth, code, Q, D, B⟩ := g
  obtain ⟨hx0, hb, hml, hown, hts, hkx, -, -, hlk, hR⟩ := X
  obtain ⟨rfl, hB⟩ := Y
  subst hR
  intro H locs ls rest h1 h2 h3 h4
  obtain ⟨ce, e1, e2, e3⟩ := h4
  exact vx_outP hown hlk (fun z hz => (hpass z hz).imp (fun h => h) (fun h => ⟨h.1, h.2.choose, hts _ h.2.choose_spec.1, hkx.2.2.2.2.2.2.2.2 _ h.2.choose_spec.2⟩)) e1 e2 e3 (fun t ht hW => ⟨⟨S, hp, by rw [ht]; exact h1⟩, h2.F ht⟩) h2.2.2 hc.1 hc.2
/-- caught here -/
theorem g_catch (X : Cx g own cc nL R0) {E nm : String} {q : Nat} (pre : List ExceptionTableEntry) (x : ExceptionTableEntry) (suf : List ExceptionTableEntry) (hs : (gX0 g).exceptionTable.toList = pre ++ x :: suf) (hpass : ∀ z ∈ pre, covers z pc = false ∨ (z.catchType ≠ 0 ∧ ∃ nm : String, Cond.classLink own z.catchType nm ∈ lw_all ∧ (E, nm) ∈ mm_ncs)) (hx : covers x pc = true) (h0 : x.catchType ≠ 0) (hl : Cond.classLink own x.catchType nm ∈ lw_all) (hca : Cond.castable E nm ∈ lw_tbl) {h : Nat} (hh : x.handlerPc = h) (kk : G g c n S h L [.ref q]) : Gx g c n S pc L E q := by
  obtain ⟨p, l, e, R, s, m, args, below, meth, code, Q, D, B⟩ := g
  obtain ⟨hx0, hb, hml, hown, hts, hkx, -, -, hlk, hR⟩ := X
  subst hh
  intro H locs ls rest h1 h2 h3 h4
  obtain ⟨ce, e1, e2, e3⟩ := h4
  exact vx_catch hown pre x suf hs (fun z hz => (hpass z hz).imp (fun h => h) (fun h => ⟨h.1, h.2.choose, hts _ h.2.choose_spec.1, hkx.2.2.2.2.2.2.2.2 _ h.2.choose_spec.2⟩)) hx h0 (hts _ hl) (va_Nw.use rfl (hkx.2.2.2.1 _ hca rfl)) e1 e2 e3 (kk H locs ls h1 h2 h3)
end THROW
