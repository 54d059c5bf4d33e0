def gl (g : GX) : Launch := g.2.1
def gD (g : GX) : Dg := g.2.2.2.2.2.2.2.2.2.2.2.1
def gB (g : GX) : Nat := g.2.2.2.2.2.2.2.2.2.2.2.2
/-- the field's place as its class says it, and as the code says it -/
def mm_same (T : u_T) (k : Nat) (ref : String) : Prop := ∀ (s : State) (args : Array Value), (∀ w ∈ lw_all, w.before args s = true) → ∀ x, s.fieldFound? (T k).1 (T k).2.1 (T k).2.2.1 = some x → s.fieldFound? ref (T k).2.1 (T k).2.2.1 = some x
theorem mm_same.rf {T : u_T} {k : Nat} {ref : String} (h : (T k).1 = ref) : mm_same T k ref := fun _ _ _ _ hx => h ▸ hx
theorem mm_same.of {T : u_T} {k : Nat} {ref : String} (h : Cond.sameField ref (T k).1 (T k).2.1 (T k).2.2.1 ∈ lw_all) : mm_same T k ref := fun _ _ hts x hx => u_same (hts _ h) x hx
theorem HP.upd {D : Dg} {B : Nat} {S S' : Mm} {H H1 : Heap} (h : HP D B S H) {a : Nat} {κ : Kd} (hK : mm_K S a = some κ) (hK' : mm_K S' = mm_K S) (hN : mm_N S' = mm_N S) (ha : mm_at D S' H1 a κ) (z : H1.size = H.size) (oq : ∀ q : Nat, q ≠ a → H1[q]? = H[q]?)
    (hI : ∀ q, q ≠ a → ∀ c k, mm_I S' c k q = mm_I S c k q) (hR : ∀ q, q ≠ a → ∀ c k, mm_R S' c k q = mm_R S c k q) (hL : ∀ q, q ≠ a → ∀ i, mm_L S' q i = mm_L S q i) (hD : ∀ q, q ≠ a → ∀ i, mm_D S' q i = mm_D S q i) : HP D B S' H1 := by
  obtain ⟨h1, h2, h3⟩ := h
  refine ⟨by rw [hN, z]; exact h1, by rw [z]; exact h2, fun q κ' hq => ?_⟩
  rw [hK'] at hq
  by_cases e : q = a
  · subst e
    cases hK.symm.trans hq
    exact ⟨ha, (h3 _ _ hq).2⟩
  · exact ⟨(h3 q κ' hq).1.kept (oq q e) (hI q e) (hR q e) (hL q e) (hD q e), (h3 q κ' hq).2⟩
theorem HP.new {D : Dg} {B : Nat} {S : Mm} {H H1 : Heap} (h : HP D B S H) {κ : Kd} (ha : mm_at D (mm_nw S κ) H1 H.size κ) (z : H1.size = H.size + 1) (oq : ∀ q : Nat, q < H.size → H1[q]? = H[q]?) : HP D B (mm_nw S κ) H1 := by
  have hlt : ∀ {q : Nat} {κ' : Kd}, mm_K S q = some κ' → q < mm_N S := fun hq => h.lt hq
  obtain ⟨h1, h2, h3⟩ := h
  refine ⟨by rw [mN_nw, z, h1], by rw [z]; omega, fun q κ' hq => ?_⟩
  rw [mK_nw] at hq
  by_cases e : q = mm_N S
  · rw [if_pos e] at hq
    cases hq
    rw [e, h1]
    exact ⟨ha, fun hb => absurd hb (by omega)⟩
  · rw [if_neg e] at hq
    have hl := hlt hq
    refine ⟨(h3 q κ' hq).1.kept (oq q (by omega)) ?_ ?_ ?_ ?_, (h3 q κ' hq).2⟩
    · intro c k; rw [mI_nw, if_neg e]
    · intro c k; rw [mR_nw, if_neg e]
    · intro i; rw [mL_nw, if_neg e]
    · intro i; rw [mD_nw, if_neg e]
theorem HP.up {D : Dg} {B : Nat} {S : Mm} {H H1 : Heap} (h : HP D B S H) (z : H.size ≤ H1.size) (oq : ∀ q : Nat, q < H.size → H1[q]? = H[q]?) : HP D B (mm_up S H1.size) H1 := by
  obtain ⟨h1, h2, h3⟩ := h
  refine ⟨rfl, by omega, fun q κ hq => ⟨(h3 q κ hq).1.kept (oq q (h3 q κ hq).1.lt) (fun _ _ => rfl) (fun _ _ => rfl) (fun _ => rfl) (fun _ => rfl), (h3 q κ hq).2⟩⟩
theorem HP.base {D : Dg} {B : Nat} {S : Mm} {H : Heap} (h : HP D B S H) {a : Nat} {κ : Kd} (hK : mm_K S a = some κ) (hw : mm_ro κ = true → B ≤ a) : B ≤ a := by
  by_cases e : B ≤ a
  · exact e
  · exact hw ((h.2.2 a κ hK).2 (by omega))
/-- the world of one object, as the kit's rows have it -/
theorem HP.one {D : Dg} {B : Nat} {S : Mm} {H : Heap} (h : HP D B S H) {a ci : Nat} {C : String} {T : u_T} {N : Nat} (ck : mm_C ci C T N) (hK : mm_K S a = some (.inl ci)) : va_P D.1 mm_cl [(a, .inr (ci, (List.range N).map (mm_fv S ci a)))] H := by
  obtain ⟨r, hr, h2⟩ := (h.2.2 _ _ hK).1
  cases Option.some.inj (hr.symm.trans ck.1)
  intro k q hk
  have hz : k < 1 := (List.getElem?_eq_some_iff.mp hk).1
  rw [show k = 0 by omega] at hk
  cases hk
  refine ⟨_, ck.1, h2.to fun k hk => ?_⟩
  simp only [vp_V, List.getD_eq_getElem?_getD, List.getElem?_map, List.getElem?_range hk, Option.map_some, Option.getD_some]
theorem mm_fs {S : Mm} {ci a N k : Nat} {v : Value} (hk : k < N) (hv : mm_fv S ci a k = v) : ((List.range N).map (mm_fv S ci a))[k]? = some v := by
  rw [List.getElem?_map, List.getElem?_range hk, Option.map_some, hv]
theorem mm_recv {D : Dg} {B : Nat} {S : Mm} {H : Heap} {s : State} (hk : Kx D B s) (h : HP D B S H) {a ci : Nat} {C : String} {T : u_T} {N : Nat} (ck : mm_C ci C T N) (hK : mm_K S a = some (.inl ci)) : ∃ cell : Cell, H[a]? = some cell ∧ cell.vm.isStatics = false ∧ s.vm.findClass C = some cell.cls :=
  va_recv hk.1 (h.one ck hK) ck.1 (q0 := 0) rfl
theorem mm_fvI {S : Mm} {ci a k : Nat} {v : Int32} (ht : (mm_ty ci k).isReference = false) (hv : mm_I S ci k a = v) : mm_fv S ci a k = .int v := by
  simp only [mm_fv, ht, Bool.false_eq_true, if_false, hv]
theorem mm_fvR {S : Mm} {ci a k : Nat} {v : Option Nat} (ht : (mm_ty ci k).isReference = true) (hv : mm_R S ci k a = v) : mm_fv S ci a k = va_rf v := by
  simp only [mm_fv, ht, if_true, hv]
section HEAP
variable {g : GX} {own : String} {cc : ByteArray} {nL : Nat} {R0 : Room} {c n pc : Nat} {S : Mm} {L L' : List (Nat × Value)} {st : List Value}
variable {C ref host : String} {T : u_T} {N ci index a k : Nat}
theorem g_getV (X : Cx g own cc nL R0) (ck : mm_C ci C T N) (k : Nat) (hk : k < N) (hl : Cond.fieldLink own index ref (T k).2.1 (T k).2.2.1 ∈ lw_all) (hs : mm_same T k ref) (hK : mm_K S a = some (.inl ci)) {v : Value} (hv : mm_fv S ci a k = v) (hd : decode cc pc = .ok (.getfield index, 3)) (kk : G g c n S (pc + 3) L (v :: st)) : G g c n S pc L (.ref a :: st) := by
  obtain ⟨p, l, e, R, s, m, args, below, meth, code, Q, D, B⟩ := g
  obtain ⟨hx, hb, hml, hown, hts, hkx, -⟩ := X
  exact fun H locs ls h1 h2 h3 => va_get hx hb hts ck.2.1 hown hkx.1 (h1.one ck hK) 0 rfl ck.1 k hk (hts _ hl) (hs s args hts) (mm_fs hk hv) hd (kk H locs ls h1 h2 h3)
theorem g_getVN (X : Cx g own cc nL R0) (ck : mm_C ci C T N) (k : Nat) (hk : k < N) (hl : Cond.fieldLinkNest own index ref (T k).2.1 (T k).2.2.1 host ∈ lw_tbl) (hs : mm_same T k ref) (hK : mm_K S a = some (.inl ci)) {v : Value} (hv : mm_fv S ci a k = v) (hd : decode cc pc = .ok (.getfield index, 3)) (kk : G g c n S (pc + 3) L (v :: st)) : G g c n S pc L (.ref a :: st) := by
  obtain ⟨p, l, e, R, s, m, args, below, meth, code, Q, D, B⟩ := g
  obtain ⟨hx, hb, hml, hown, hts, hkx, -⟩ := X
  exact fun H locs ls h1 h2 h3 => va_getN hx hb hts ck.2.1 hown hkx.1 (h1.one ck hK) 0 rfl ck.1 k hk (va_Nw.use rfl (hkx.2.2.2.1 _ hl rfl)) (hs s args hts) (mm_fs hk hv) hd (kk H locs ls h1 h2 h3)
theorem g_getI (X : Cx g own cc nL R0) (ck : mm_C ci C T N) (k : Nat) (hk : k < N) (hl : Cond.fieldLink own index ref (T k).2.1 (T k).2.2.1 ∈ lw_all) (hs : mm_same T k ref) (ht : (mm_ty ci k).isReference = false) (hK : mm_K S a = some (.inl ci)) {v : Int32} (hv : mm_I S ci k a = v) (hd : decode cc pc = .ok (.getfield index, 3)) (kk : G g c n S (pc + 3) L (.int v :: st)) : G g c n S pc L (.ref a :: st) := g_getV X ck k hk hl hs hK (mm_fvI ht hv) hd kk
theorem g_getIN (X : Cx g own cc nL R0) (ck : mm_C ci C T N) (k : Nat) (hk : k < N) (hl : Cond.fieldLinkNest own index ref (T k).2.1 (T k).2.2.1 host ∈ lw_tbl) (hs : mm_same T k ref) (ht : (mm_ty ci k).isReference = false) (hK : mm_K S a = some (.inl ci)) {v : Int32} (hv : mm_I S ci k a = v) (hd : decode cc pc = .ok (.getfield index, 3)) (kk : G g c n S (pc + 3) L (.int v :: st)) : G g c n S pc L (.ref a :: st) := g_getVN X ck k hk hl hs hK (mm_fvI ht hv) hd kk
theorem g_getR (X : Cx g own cc nL R0) (ck : mm_C ci C T N) (k : Nat) (hk : k < N) (hl : Cond.fieldLink own index ref (T k).2.1 (T k).2.2.1 ∈ lw_all) (hs : mm_same T k ref) (ht : (mm_ty ci k).isReference = true) (hK : mm_K S a = some (.inl ci)) {v : Option Nat} (hv : mm_R S ci k a = v) (hd : decode cc pc = .ok (.getfield index, 3)) (kk : G g c n S (pc + 3) L (va_rf v :: st)) : G g c n S pc L (.ref a :: st) := g_getV X ck k hk hl hs hK (mm_fvR ht hv) hd kk
theorem g_getRN (X : Cx g own cc nL R0) (ck : mm_C ci C T N) (k : Nat) (hk : k < N) (hl : Cond.fieldLinkNest own index ref (T k).2.1 (T k).2.2.1 host ∈ lw_tbl) (hs : mm_same T k ref) (ht : (mm_ty ci k).isReference = true) (hK : mm_K S a = some (.inl ci)) {v : Option Nat} (hv : mm_R S ci k a = v) (hd : decode cc pc = .ok (.getfield index, 3)) (kk : G g c n S (pc + 3) L (va_rf v :: st)) : G g c n S pc L (.ref a :: st) := g_getVN X ck k hk hl hs hK (mm_fvR ht hv) hd kk
/-- a field's new value in the picture -/
def mm_sV (S : Mm) (ci k a : Nat) (v : Value) (S' : Mm) : Prop := (∃ x : Int32, v = .int x ∧ (mm_ty ci k).isReference = false ∧ S' = mm_sI S ci k a x) ∨ (∃ r : Option Nat, v = va_rf r ∧ (mm_ty ci k).isReference = true ∧ S' = mm_sR S ci k a r)
theorem mm_sV.at {D : Dg} {S S' : Mm} {H1 : Heap} {v : Value} {cell : Cell} (h : mm_sV S ci k a v S') (ck : mm_C ci C T N) (q1 : H1[a]? = some cell) (q2 : cell.cls = D.1.1 ci) (q3 : cell.vm = .none) (q4 : ∀ j, j < N → cell.slots[D.1.2 ci j]? = some (updV (mm_fv S ci a) k v j)) : mm_at D S' H1 a (.inl ci) := by
  refine ⟨_, ck.1, cell, q1, q2, q3, fun j hj => ?_⟩
  rw [q4 j hj]
  congr 1
  rcases h with ⟨x, rfl, ht, rfl⟩ | ⟨r, rfl, ht, rfl⟩
  · by_cases e : j = k
    · subst e
      simp [updV, mm_fv, ht, mI_sI]
    · simp [updV, mm_fv, e, mI_sI, mR_sI]
  · by_cases e : j = k
    · subst e
      simp [updV, mm_fv, ht, mR_sR]
    · simp [updV, mm_fv, e, mR_sR, mI_sR]
theorem mm_sV.HP {D : Dg} {B : Nat} {S S' : Mm} {H H1 : Heap} {v : Value} {cell : Cell} (h : mm_sV S ci k a v S') (h0 : HP D B S H) (ck : mm_C ci C T N) (hK : mm_K S a = some (.inl ci)) (q1 : H1[a]? = some cell) (q2 : cell.cls = D.1.1 ci) (q3 : cell.vm = .none) (q4 : ∀ j, j < N → cell.slots[D.1.2 ci j]? = some (updV (mm_fv S ci a) k v j)) (z : H1.size = H.size) (oq : ∀ q : Nat, q ≠ a → H1[q]? = H[q]?) : HP D B S' H1 := by
  have h9 := h.at ck q1 q2 q3 q4
  rcases h with ⟨x, rfl, ht, rfl⟩ | ⟨r, rfl, ht, rfl⟩
  · exact h0.upd hK rfl rfl h9 z oq (fun q e c k => by rw [mI_sI, if_neg (fun z => e z.2.2)]) (fun _ _ _ _ => rfl) (fun _ _ _ => rfl) (fun _ _ _ => rfl)
  · exact h0.upd hK rfl rfl h9 z oq (fun _ _ _ _ => rfl) (fun q e c k => by rw [mR_sR, if_neg (fun z => e z.2.2)]) (fun _ _ _ => rfl) (fun _ _ _ => rfl)
theorem g_putV (X : Cx g own cc nL R0) (ck : mm_C ci C T N) (k : Nat) (hk : k < N) (hl : Cond.fieldLink own index ref (T k).2.1 (T k).2.2.1 ∈ lw_all) (hs : mm_same T k ref) (hfin : (T k).2.2.2 = false) (hK : mm_K S a = some (.inl ci)) (hw : mm_ro (.inl ci) = true → gB g ≤ a) {v : Value} (hn : narrow (mm_ty ci k) v = v) (hf : fits (mm_ty ci k) v = true) {S' : Mm} (hS' : mm_sV S ci k a v S') (hd : decode cc pc = .ok (.putfield index, 3)) (kk : G g c n S' (pc + 3) L st) : G g c n S pc L (v :: .ref a :: st) := by
  obtain ⟨p, l, e, R, s, m, args, below, meth, code, Q, D, B⟩ := g
  obtain ⟨hx, hb, hml, hown, hts, hkx, -⟩ := X
  intro H locs ls h1 h2 h3
  have hap := va_apart (own := own) hts ck.2.1 (mm_ty ci) ck.2.2.1 ck.2.2.2.1 hkx.1 ck.1
  obtain ⟨r, hr, cell, q1, q2, q3, q4⟩ := (h1.2.2 _ _ hK).1
  cases Option.some.inj (hr.symm.trans ck.1)
  obtain ⟨hS, hfc, kC, hkC, hkind⟩ := hkx.1.1 ci _ ck.1
  obtain ⟨cf, kf, fi, f, hi, hsl⟩ := hS k hk
  have hlay := hts _ (ck.2.1 _ (u_in_lay hk))
  unfold u_lay at hlay
  rw [if_neg (by rw [hfin]; decide)] at hlay
  have hst := (u_facts hfc hkC (u_lays hts ck.2.1 hk) hi).1
  have h6 := u_store hfc hkC hkind hlay hi (ck.2.2.1 k hk) hn hf
  refine W.putK hx hb (f := f) ⟨hown, hts _ hl, ⟨_, _, _, hs s args hts _ hi⟩, hst⟩ (by rw [q2]; exact h6) q1 q3 (by rw [hsl]; exact k2_hasslot (q4 k hk)) rfl rfl hd fun H' e1 e2 e3 => ?_
  rw [hsl] at e1 ⊢
  exact kk H' _ ls (hS'.HP h1 ck hK e1 q2 q3 (t_set q4 hap hk v) e2 e3) (h2.put e2 e3 (h1.base hK hw)) h3
theorem g_putVN (X : Cx g own cc nL R0) (ck : mm_C ci C T N) (k : Nat) (hk : k < N) (hl : Cond.fieldLinkNest own index ref (T k).2.1 (T k).2.2.1 host ∈ lw_tbl) (hs : mm_same T k ref) (hfin : (T k).2.2.2 = false) (hK : mm_K S a = some (.inl ci)) (hw : mm_ro (.inl ci) = true → gB g ≤ a) {v : Value} (hn : narrow (mm_ty ci k) v = v) (hf : fits (mm_ty ci k) v = true) {S' : Mm} (hS' : mm_sV S ci k a v S') (hd : decode cc pc = .ok (.putfield index, 3)) (kk : G g c n S' (pc + 3) L st) : G g c n S pc L (v :: .ref a :: st) := by
  obtain ⟨p, l, e, R, s, m, args, below, meth, code, Q, D, B⟩ := g
  obtain ⟨hx, hb, hml, hown, hts, hkx, -⟩ := X
  intro H locs ls h1 h2 h3
  have hap := va_apart (own := own) hts ck.2.1 (mm_ty ci) ck.2.2.1 ck.2.2.2.1 hkx.1 ck.1
  obtain ⟨r, hr, cell, q1, q2, q3, q4⟩ := (h1.2.2 _ _ hK).1
  cases Option.some.inj (hr.symm.trans ck.1)
  obtain ⟨hS, hfc, kC, hkC, hkind⟩ := hkx.1.1 ci _ ck.1
  obtain ⟨cf, kf, fi, f, hi, hsl⟩ := hS k hk
  have hlay := hts _ (ck.2.1 _ (u_in_lay hk))
  unfold u_lay at hlay
  rw [if_neg (by rw [hfin]; decide)] at hlay
  have hst := (u_facts hfc hkC (u_lays hts ck.2.1 hk) hi).1
  have h6 := u_store hfc hkC hkind hlay hi (ck.2.2.1 k hk) hn hf
  refine va_WputK hx hb (f := f) hown (va_Nw.use rfl (hkx.2.2.2.1 _ hl rfl)) (hs s args hts _ hi) hst (by rw [q2]; exact h6) q1 q3 (by rw [hsl]; exact k2_hasslot (q4 k hk)) rfl rfl hd fun H' e1 e2 e3 => ?_
  rw [hsl] at e1 ⊢
  exact kk H' _ ls (hS'.HP h1 ck hK e1 q2 q3 (t_set q4 hap hk v) e2 e3) (h2.put e2 e3 (h1.base hK hw)) h3
def gM (g : GX) : Method := g.2.2.2.2.2.2.2.2.1
theorem g_putF (X : Cx g own cc nL R0) (ck : mm_C ci C T N) (k : Nat) (hk : k < N) (hl : Cond.fieldLink own index ref (T k).2.1 (T k).2.2.1 ∈ lw_all) (hs : mm_same T k ref) (hfin : (T k).2.2.2 = true) (hin2 : (gM g).name = "<init>") (hdecl : (T k).1 = own) (hK : mm_K S a = some (.inl ci)) (hw : mm_ro (.inl ci) = true → gB g ≤ a) {v : Value} (hn : narrow (mm_ty ci k) v = v) (hf : fits (mm_ty ci k) v = true) {S' : Mm} (hS' : mm_sV S ci k a v S') (hd : decode cc pc = .ok (.putfield index, 3)) (kk : G g c n S' (pc + 3) L st) : G g c n S pc L (v :: .ref a :: st) := by
  obtain ⟨p, l, e, R, s, m, args, below, meth, code, Q, D, B⟩ := g
  obtain ⟨hx, hb, hml, hown, hts, hkx, -⟩ := X
  intro H locs ls h1 h2 h3
  have hap := va_apart (own := own) hts ck.2.1 (mm_ty ci) ck.2.2.1 ck.2.2.2.1 hkx.1 ck.1
  obtain ⟨r, hr, cell, q1, q2, q3, q4⟩ := (h1.2.2 _ _ hK).1
  cases Option.some.inj (hr.symm.trans ck.1)
  obtain ⟨hS, hfc, kC, hkC, hkind⟩ := hkx.1.1 ci _ ck.1
  obtain ⟨cf, kf, fi, f, hi, hsl⟩ := hS k hk
  have hlay := hts _ (ck.2.1 _ (u_in_lay hk))
  unfold u_lay at hlay
  rw [if_pos hfin] at hlay
  have hst := (u_facts hfc hkC (u_lays hts ck.2.1 hk) hi).1
  have hcf : m.cls = cf := by
    obtain ⟨_, _, c', _, _, _, -, -, hf', -, -, -, hown2, -⟩ := Cond.laysFinal_spec hlay
    have e1 : c' = cf := by have := hi.symm.trans hf'; simp at this; exact this.1.symm
    rw [hdecl] at hown2
    rw [← e1]; exact Option.some.inj (hown.symm.trans hown2)
  have h6 := u_fits hfc hkC hkind (Or.inr hlay) hi (ck.2.2.1 k hk) hn hf
  refine W.putFinK hx hb hown (hts _ hl) (hs s args hts _ hi) hst hcf hin2 (by rw [q2]; exact h6) q1 q3 (by rw [hsl]; exact k2_hasslot (q4 k hk)) rfl rfl hd fun H' e1 e2 e3 => ?_
  rw [hsl] at e1 ⊢
  exact kk H' _ ls (hS'.HP h1 ck hK e1 q2 q3 (t_set q4 hap hk v) e2 e3) (h2.put e2 e3 (h1.base hK hw)) h3
theorem g_new (X : Cx g own cc nL R0) (ck : mm_C ci C T N) (hcl : Cond.classLink own index C ∈ lw_all) (hinst : Cond.instantiable C N ∈ lw_all) (hini : Cond.initialized C ∈ lw_all) (hc : c + 1 ≤ R0.cells ∧ n + N ≤ R0.slots) (hd : decode cc pc = .ok (.new index, 3)) {q : Nat} (hq : mm_N S = q) {S' : Mm} (hS' : mm_nw S (.inl ci) = S') (kk : G g (c + 1) (n + N) S' (pc + 3) L (.ref q :: st)) : G g c n S pc L st := by
  obtain ⟨p, l, e, R, s, m, args, below, meth, code, Q, D, B⟩ := g
  obtain ⟨hx, hb, hml, hown, hts, hkx, -, -, -, hR⟩ := X
  intro H locs ls h1 h2 h3
  subst hR
  have hKn := hkx.1.1 ci _ ck.1
  have hz : mm_N S = H.size := h1.1
  subst hS'
  subst hq
  refine W.newcK hx hb hown (hts _ hcl) (hts _ hinst) (hts _ hini) rfl hd hc.1 hc.2 hKn.2.1 rfl fun H1 kC hkC e1 z1 o1 => ?_
  rw [← hz] at e1 z1 o1 ⊢
  have hat : mm_at D (mm_nw S (.inl ci)) H1 (mm_N S) (.inl ci) := by
    refine ⟨_, ck.1, (u_born (mm_ty ci) hts ck.2.1 hKn hkC e1 ck.2.2.1).to fun j hj => ?_⟩
    rw [ck.2.2.2.2 j hj]
    by_cases ht : (mm_ty ci j).isReference = true
    · rw [mm_fvR ht (v := none) (by rw [mR_nw, if_pos rfl]), if_pos ht]
      rfl
    · rw [mm_fvI (by simpa using ht) (v := 0) (by rw [mI_nw, if_pos rfl]), if_neg ht]
  exact kk H1 locs ls (h1.new (by rw [← hz]; exact hat) (by rw [z1, hz]) (fun q h => o1 q (by rw [hz]; exact h))) ⟨Nat.le_trans h2.1 (by rw [z1, hz]; omega), fun x g1 g2 => (o1 x (by rw [hz]; exact Nat.lt_of_lt_of_le g1 h2.1)).trans (h2.2.1 x g1 g2), h2.2.2⟩ h3
/-- an index in range, and its number -/
def mm_ix (i : Int32) (N j : Nat) : Prop := vp_in i N ∧ i.toNatClampNeg = j
theorem mm_ix.of {i : Int32} {N j : Nat} (h : i = nI j) (hj : j < N) (hN : N < 2 ^ 31) : mm_ix i N j := by
  subst h; exact ⟨vp_in_nI hj hN, nI_clamp (by omega)⟩
theorem mm_arr {D : Dg} {s : State} {B : Nat} (h : Kx D B s) {t : Nat} (ht : t = 0 ∨ t = 1 ∨ t = 2 ∨ t = 3 ∨ t = 4 ∨ t = 8 ∨ t = 9) : ArrOfT s (D.2.1 t) (mm_aty t) ∧ va_RA s (D.2.1 t) (mm_aty t) := by
  rcases ht with rfl | rfl | rfl | rfl | rfl | rfl | rfl
  · exact h.1.2 0 _ rfl
  · exact h.1.2 1 _ rfl
  · exact h.1.2 2 _ rfl
  · exact h.1.2 3 _ rfl
  · exact h.1.2 4 _ rfl
  · exact h.1.2 5 _ rfl
  · exact h.1.2 6 _ rfl
theorem mm_avI {S : Mm} {t q j : Nat} (h : t ≠ 3 ∧ t ≠ 4 ∧ t ≠ 8 ∧ t ≠ 9) : mm_av S t q j = .int (mm_I S 99 j q) := by
  simp only [mm_av, h.1, h.2.1, h.2.2.1, h.2.2.2, if_false, or_self]
theorem mm_avR {S : Mm} {t q j : Nat} (h : t = 3 ∨ t = 4) : mm_av S t q j = va_rf (mm_R S 99 j q) := by
  rcases h with rfl | rfl <;> rfl
section LD
variable {D : Dg} {B : Nat} {H : Heap} {t j : Nat} {i : Int32}
theorem mm_in (hx : mm_ix i N j) {cA : ClassId} {f : Nat → Value} : ¬ (i < 0 ∨ (arrV cA N f).slots.size ≤ i.toNatClampNeg) := by rw [arrV_size]; exact hx.1
theorem mm_jl (hx : mm_ix i N j) : j < N := by
  rw [← hx.2]; exact Nat.not_le.mp fun q => hx.1 (Or.inr q)
theorem mm_rd (hx : mm_ix i N j) {cA : ClassId} {f : Nat → Value} {v : Value} (hv : f j = v) : (arrV cA N f).slots[i.toNatClampNeg]? = some v := by
  rw [hx.2, arrV_read _ _ (mm_jl hx), hv]
end LD
theorem g_iald (X : Cx g own cc nL R0) {i : Int32} {j : Nat} (hx : mm_ix i N j) (hK : mm_K S a = some (.inr (0, N))) {v : Int32} (hv : mm_I S 99 j a = v) (hd : decode cc pc = .ok (.iaload, 1)) (kk : G g c n S (pc + 1) L (.int v :: st)) : G g c n S pc L (.int i :: .ref a :: st) := by
  obtain ⟨p, l, e, R, s, m, args, below, meth, code, Q, D, B⟩ := g
  obtain ⟨hx0, hb, hml, hown, hts, hkx, -⟩ := X
  exact fun H locs ls h1 h2 h3 => W.iald (v := .int v) hx0 hb (h1.2.2 _ _ hK).1 ((mm_arr hkx (t := 0) (by omega)).1 _ _) (fun q => by cases q) (mm_in hx) (mm_rd hx (by rw [mm_avI (by decide), hv])) rfl rfl hd (kk H locs ls h1 h2 h3)
theorem g_bald (X : Cx g own cc nL R0) {i : Int32} {j : Nat} (hx : mm_ix i N j) (hK : mm_K S a = some (.inr (1, N))) {v : Int32} (hv : mm_I S 99 j a = v) (hd : decode cc pc = .ok (.baload, 1)) (kk : G g c n S (pc + 1) L (.int v :: st)) : G g c n S pc L (.int i :: .ref a :: st) := by
  obtain ⟨p, l, e, R, s, m, args, below, meth, code, Q, D, B⟩ := g
  obtain ⟨hx0, hb, hml, hown, hts, hkx, -⟩ := X
  exact fun H locs ls h1 h2 h3 => W.bald (v := .int v) hx0 hb (h1.2.2 _ _ hK).1 ((mm_arr hkx (t := 1) (by omega)).1 _ _) (fun q => by cases q) (mm_in hx) (mm_rd hx (by rw [mm_avI (by decide), hv])) rfl rfl hd (kk H locs ls h1 h2 h3)
theorem g_cald (X : Cx g own cc nL R0) {i : Int32} {j : Nat} (hx : mm_ix i N j) (hK : mm_K S a = some (.inr (2, N))) {v : Int32} (hv : mm_I S 99 j a = v) (hd : decode cc pc = .ok (.caload, 1)) (kk : G g c n S (pc + 1) L (.int v :: st)) : G g c n S pc L (.int i :: .ref a :: st) := by
  obtain ⟨p, l, e, R, s, m, args, below, meth, code, Q, D, B⟩ := g
  obtain ⟨hx0, hb, hml, hown, hts, hkx, -⟩ := X
  exact fun H locs ls h1 h2 h3 => W.cald (v := .int v) hx0 hb (h1.2.2 _ _ hK).1 ((mm_arr hkx (t := 2) (by omega)).1 _ _) (fun q => by cases q) (mm_in hx) (mm_rd hx (by rw [mm_avI (by decide), hv])) rfl rfl hd (kk H locs ls h1 h2 h3)
theorem g_aald3 (X : Cx g own cc nL R0) {i : Int32} {j : Nat} (hx : mm_ix i N j) (hK : mm_K S a = some (.inr (3, N))) {v : Option Nat} (hv : mm_R S 99 j a = v) (hd : decode cc pc = .ok (.aaload, 1)) (kk : G g c n S (pc + 1) L (va_rf v :: st)) : G g c n S pc L (.int i :: .ref a :: st) := by
  obtain ⟨p, l, e, R, s, m, args, below, meth, code, Q, D, B⟩ := g
  obtain ⟨hx0, hb, hml, hown, hts, hkx, -⟩ := X
  exact fun H locs ls h1 h2 h3 => W.aald (v := va_rf v) (ty := mm_aty 3) hx0 hb (h1.2.2 _ _ hK).1 ((mm_arr hkx (t := 3) (by omega)).1 _ _) rfl (fun q => by cases q) (mm_in hx) (mm_rd hx (by rw [mm_avR (by decide), hv])) rfl rfl hd (kk H locs ls h1 h2 h3)
theorem g_aald4 (X : Cx g own cc nL R0) {i : Int32} {j : Nat} (hx : mm_ix i N j) (hK : mm_K S a = some (.inr (4, N))) {v : Option Nat} (hv : mm_R S 99 j a = v) (hd : decode cc pc = .ok (.aaload, 1)) (kk : G g c n S (pc + 1) L (va_rf v :: st)) : G g c n S pc L (.int i :: .ref a :: st) := by
  obtain ⟨p, l, e, R, s, m, args, below, meth, code, Q, D, B⟩ := g
  obtain ⟨hx0, hb, hml, hown, hts, hkx, -⟩ := X
  exact fun H locs ls h1 h2 h3 => W.aald (v := va_rf v) (ty := mm_aty 4) hx0 hb (h1.2.2 _ _ hK).1 ((mm_arr hkx (t := 4) (by omega)).1 _ _) rfl (fun q => by cases q) (mm_in hx) (mm_rd hx (by rw [mm_avR (by decide), hv])) rfl rfl hd (kk H locs ls h1 h2 h3)
theorem g_lald (X : Cx g own cc nL R0) {i : Int32} {j : Nat} (hx : mm_ix i N j) (hK : mm_K S a = some (.inr (8, N))) {v : Int64} (hv : mm_L S a j = v) (hd : decode cc pc = .ok (.laload, 1)) (kk : G g c n S (pc + 1) L (.long v :: st)) : G g c n S pc L (.int i :: .ref a :: st) := by
  obtain ⟨p, l, e, R, s, m, args, below, meth, code, Q, D, B⟩ := g
  obtain ⟨hx0, hb, hml, hown, hts, hkx, -⟩ := X
  exact fun H locs ls h1 h2 h3 => W.lald (v := .long v) hx0 hb (h1.2.2 _ _ hK).1 ((mm_arr hkx (t := 8) (by omega)).1 _ _) (fun q => by cases q) (mm_in hx) (mm_rd hx (by rw [← hv]; rfl)) rfl rfl hd (kk H locs ls h1 h2 h3)
theorem g_dald (X : Cx g own cc nL R0) {i : Int32} {j : Nat} (hx : mm_ix i N j) (hK : mm_K S a = some (.inr (9, N))) {v : UInt64} (hv : mm_D S a j = v) (hd : decode cc pc = .ok (.daload, 1)) (kk : G g c n S (pc + 1) L (.double v :: st)) : G g c n S pc L (.int i :: .ref a :: st) := by
  obtain ⟨p, l, e, R, s, m, args, below, meth, code, Q, D, B⟩ := g
  obtain ⟨hx0, hb, hml, hown, hts, hkx, -⟩ := X
  exact fun H locs ls h1 h2 h3 => W.dald (v := .double v) hx0 hb (h1.2.2 _ _ hK).1 ((mm_arr hkx (t := 9) (by omega)).1 _ _) (fun q => by cases q) (mm_in hx) (mm_rd hx (by rw [← hv]; rfl)) rfl rfl hd (kk H locs ls h1 h2 h3)
theorem g_alen (X : Cx g own cc nL R0) {t : Nat} (ht : t = 0 ∨ t = 1 ∨ t = 2 ∨ t = 3 ∨ t = 4 ∨ t = 8 ∨ t = 9) (hK : mm_K S a = some (.inr (t, N))) {v : Int32} (hv : nI N = v) (hd : decode cc pc = .ok (.arraylength, 1)) (kk : G g c n S (pc + 1) L (.int v :: st)) : G g c n S pc L (.ref a :: st) := by
  obtain ⟨p, l, e, R, s, m, args, below, meth, code, Q, D, B⟩ := g
  obtain ⟨hx0, hb, hml, hown, hts, hkx, -⟩ := X
  exact fun H locs ls h1 h2 h3 => W.alen (n := v) hx0 hb (h1.2.2 _ _ hK).1 ((mm_arr hkx ht).1 _ _) (by rw [arrV_size, ← hv]; rfl) rfl rfl hd (kk H locs ls h1 h2 h3)
theorem mm_stored {D : Dg} {B : Nat} {H H1 : Heap} {S S' : Mm} {t j : Nat} {v : Value} (h1 : HP D B S H) (hK : mm_K S a = some (.inr (t, N))) (hK' : mm_K S' = mm_K S) (hN : mm_N S' = mm_N S) (e1 : H1[a]? = some ((arrV (D.2.1 t) N (mm_av S t a)).setSlot j v)) (z : H1.size = H.size) (oq : ∀ q : Nat, q ≠ a → H1[q]? = H[q]?) (hv : ∀ k, mm_av S' t a k = if k = j then v else mm_av S t a k)
    (hI : ∀ q, q ≠ a → ∀ c k, mm_I S' c k q = mm_I S c k q) (hR : ∀ q, q ≠ a → ∀ c k, mm_R S' c k q = mm_R S c k q) (hL : ∀ q, q ≠ a → ∀ i, mm_L S' q i = mm_L S q i) (hD : ∀ q, q ≠ a → ∀ i, mm_D S' q i = mm_D S q i) : HP D B S' H1 := by
  refine h1.upd hK hK' hN ?_ z oq hI hR hL hD
  show H1[a]? = _
  rw [e1, arrV_store]
  congr 2
  funext k
  rw [hv k]
  rfl
theorem g_iast (X : Cx g own cc nL R0) {i x v : Int32} {j : Nat} (hx : mm_ix i N j) (hK : mm_K S a = some (.inr (0, N))) (hw : gB g ≤ a) (hv : Value.int x = Value.int v) {S' : Mm} (hS' : mm_sI S 99 j a v = S') (hd : decode cc pc = .ok (.iastore, 1)) (kk : G g c n S' (pc + 1) L st) : G g c n S pc L (.int x :: .int i :: .ref a :: st) := by
  obtain ⟨p, l, e, R, s, m, args, below, meth, code, Q, D, B⟩ := g
  obtain ⟨hx0, hb, hml, hown, hts, hkx, -⟩ := X
  subst hS'
  refine fun H locs ls h1 h2 h3 => W.iast hx0 hb (h1.2.2 _ _ hK).1 ((mm_arr hkx (t := 0) (by omega)).1 _ _) (fun q => by cases q) (mm_in hx) rfl rfl hd fun H1 e1 z oq => ?_
  rw [hx.2] at e1
  refine kk H1 _ ls (mm_stored h1 hK rfl rfl e1 z oq (fun k => ?_) (fun q e c k => by rw [mI_sI, if_neg (fun z => e z.2.2)]) (fun _ _ _ _ => rfl) (fun _ _ _ => rfl) (fun _ _ _ => rfl)) (h2.put z oq hw) h3
  rw [mm_avI (by decide), mm_avI (by decide), mI_sI, hv]
  by_cases e : k = j <;> simp [e]
theorem g_bast (X : Cx g own cc nL R0) {i x v : Int32} {j : Nat} (hx : mm_ix i N j) (hK : mm_K S a = some (.inr (1, N))) (hw : gB g ≤ a) (hv : narrow .byte (Value.int x) = Value.int v) {S' : Mm} (hS' : mm_sI S 99 j a v = S') (hd : decode cc pc = .ok (.bastore, 1)) (kk : G g c n S' (pc + 1) L st) : G g c n S pc L (.int x :: .int i :: .ref a :: st) := by
  obtain ⟨p, l, e, R, s, m, args, below, meth, code, Q, D, B⟩ := g
  obtain ⟨hx0, hb, hml, hown, hts, hkx, -⟩ := X
  subst hS'
  refine fun H locs ls h1 h2 h3 => W.bast hx0 hb (h1.2.2 _ _ hK).1 ((mm_arr hkx (t := 1) (by omega)).1 _ _) (fun q => by cases q) (mm_in hx) rfl rfl hd fun H1 e1 z oq => ?_
  rw [hx.2] at e1
  refine kk H1 _ ls (mm_stored h1 hK rfl rfl e1 z oq (fun k => ?_) (fun q e c k => by rw [mI_sI, if_neg (fun z => e z.2.2)]) (fun _ _ _ _ => rfl) (fun _ _ _ => rfl) (fun _ _ _ => rfl)) (h2.put z oq hw) h3
  rw [mm_avI (by decide), mm_avI (by decide), mI_sI, hv]
  by_cases e : k = j <;> simp [e]
theorem g_cast (X : Cx g own cc nL R0) {i x v : Int32} {j : Nat} (hx : mm_ix i N j) (hK : mm_K S a = some (.inr (2, N))) (hw : gB g ≤ a) (hv : narrow .char (Value.int x) = Value.int v) {S' : Mm} (hS' : mm_sI S 99 j a v = S') (hd : decode cc pc = .ok (.castore, 1)) (kk : G g c n S' (pc + 1) L st) : G g c n S pc L (.int x :: .int i :: .ref a :: st) := by
  obtain ⟨p, l, e, R, s, m, args, below, meth, code, Q, D, B⟩ := g
  obtain ⟨hx0, hb, hml, hown, hts, hkx, -⟩ := X
  subst hS'
  refine fun H locs ls h1 h2 h3 => W.cast hx0 hb (h1.2.2 _ _ hK).1 ((mm_arr hkx (t := 2) (by omega)).1 _ _) (fun q => by cases q) (mm_in hx) rfl rfl hd fun H1 e1 z oq => ?_
  rw [hx.2] at e1
  refine kk H1 _ ls (mm_stored h1 hK rfl rfl e1 z oq (fun k => ?_) (fun q e c k => by rw [mI_sI, if_neg (fun z => e z.2.2)]) (fun _ _ _ _ => rfl) (fun _ _ _ => rfl) (fun _ _ _ => rfl)) (h2.put z oq hw) h3
  rw [mm_avI (by decide), mm_avI (by decide), mI_sI, hv]
  by_cases e : k = j <;> simp [e]
theorem g_last (X : Cx g own cc nL R0) {i : Int32} {x : Int64} {j : Nat} (hx : mm_ix i N j) (hK : mm_K S a = some (.inr (8, N))) (hw : gB g ≤ a) {S' : Mm} (hS' : mm_sL S a j x = S') (hd : decode cc pc = .ok (.lastore, 1)) (kk : G g c n S' (pc + 1) L st) : G g c n S pc L (.long x :: .int i :: .ref a :: st) := by
  obtain ⟨p, l, e, R, s, m, args, below, meth, code, Q, D, B⟩ := g
  obtain ⟨hx0, hb, hml, hown, hts, hkx, -⟩ := X
  subst hS'
  refine fun H locs ls h1 h2 h3 => W.last hx0 hb (h1.2.2 _ _ hK).1 ((mm_arr hkx (t := 8) (by omega)).1 _ _) (fun q => by cases q) (mm_in hx) rfl rfl hd fun H1 e1 z oq => ?_
  rw [hx.2] at e1
  refine kk H1 _ ls (mm_stored h1 hK rfl rfl e1 z oq (fun k => ?_) (fun _ _ _ _ => rfl) (fun _ _ _ _ => rfl) (fun q e i => by rw [mL_sL, if_neg (fun z => e z.1)]) (fun _ _ _ => rfl)) (h2.put z oq hw) h3
  show Value.long (mm_L (mm_sL S a j x) a k) = if k = j then Value.long x else Value.long (mm_L S a k)
  rw [mL_sL]
  by_cases e : k = j <;> simp [e]
theorem g_dast (X : Cx g own cc nL R0) {i : Int32} {x : UInt64} {j : Nat} (hx : mm_ix i N j) (hK : mm_K S a = some (.inr (9, N))) (hw : gB g ≤ a) {S' : Mm} (hS' : mm_sD S a j x = S') (hd : decode cc pc = .ok (.dastore, 1)) (kk : G g c n S' (pc + 1) L st) : G g c n S pc L (.double x :: .int i :: .ref a :: st) := by
  obtain ⟨p, l, e, R, s, m, args, below, meth, code, Q, D, B⟩ := g
  obtain ⟨hx0, hb, hml, hown, hts, hkx, -⟩ := X
  subst hS'
  refine fun H locs ls h1 h2 h3 => W.dast hx0 hb (h1.2.2 _ _ hK).1 ((mm_arr hkx (t := 9) (by omega)).1 _ _) (fun q => by cases q) (mm_in hx) rfl rfl hd fun H1 e1 z oq => ?_
  rw [hx.2] at e1
  refine kk H1 _ ls (mm_stored h1 hK rfl rfl e1 z oq (fun k => ?_) (fun _ _ _ _ => rfl) (fun _ _ _ _ => rfl) (fun _ _ _ => rfl) (fun q e i => by rw [mD_sD, if_neg (fun z => e z.1)])) (h2.put z oq hw) h3
  show Value.double (mm_D (mm_sD S a j x) a k) = if k = j then Value.double x else Value.double (mm_D S a k)
  rw [mD_sD]
  by_cases e : k = j <;> simp [e]
end HEAP
