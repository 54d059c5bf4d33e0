section HEAP2
variable {g : GX} {own : String} {cc : ByteArray} {nL : Nat} {R0 : Room} {c n pc : Nat} {S : Mm} {L L' : List (Nat × Value)} {st : List Value}
variable {C ref host nm d : String} {T : u_T} {N ci index a k : Nat}
theorem mm_born {D : Dg} {B t N : Nat} {S : Mm} {H H1 : Heap} {v : Value} (h1 : HP D B S H) (e1 : H1[mm_N S]? = some (arrV (D.2.1 t) N (fun _ => v))) (z1 : H1.size = mm_N S + 1) (o1 : ∀ q : Nat, q < mm_N S → H1[q]? = H[q]?) (hv : ∀ j, mm_av (mm_nw S (.inr (t, N))) t (mm_N S) j = v) : HP D B (mm_nw S (.inr (t, N))) H1 := by
  have hz : mm_N S = H.size := h1.1
  refine h1.new ?_ (by rw [z1, hz]) (fun q h => o1 q (by rw [hz]; exact h))
  rw [← hz]
  show H1[mm_N S]? = _
  rw [e1]
  congr 2
  funext j
  rw [hv j]
theorem mm_grown {s : State} {B m : Nat} {H H1 : Heap} {locs : List Loc} (h2 : va_S (fun q => B ≤ q) s.heap H locs) (hz : m = H.size) (z1 : H1.size = m + 1) (o1 : ∀ q : Nat, q < m → H1[q]? = H[q]?) : va_S (fun q => B ≤ q) s.heap H1 locs :=
  ⟨Nat.le_trans h2.1 (by omega), fun x g1 g2 => (o1 x (by rw [hz]; exact Nat.lt_of_lt_of_le g1 h2.1)).trans (h2.2.1 x g1 g2), h2.2.2⟩
theorem g_newaI (X : Cx g own cc nL R0) (hw : Cond.arrayClass .int ∈ lw_all) {x : Int32} {N q : Nat} (hx : x = nI N) (hN : N < 60000000) (hc : c + 1 ≤ R0.cells ∧ n + N ≤ R0.slots) (hq : mm_N S = q) {S' : Mm} (hS' : mm_nw S (.inr (0, N)) = S') (hd : decode cc pc = .ok (.newarray .int, 2)) (kk : G g (c + 1) (n + N) S' (pc + 2) L (.ref q :: st)) : G g c n S pc L (.int x :: st) := by
  obtain ⟨p, l, e, R, s, m, args, below, meth, code, Q, D, B⟩ := g
  obtain ⟨hx0, hb, hml, hown, hts, hkx, -, -, -, hR⟩ := X
  subst hR
  subst hS'
  subst hx
  subst hq
  intro H locs ls h1 h2 h3
  have hz : mm_N S = H.size := h1.1
  refine va_newaK (atype := .int) (N := N) hx0 hb (hts _ hw) rfl hd rfl (nI_pos (by omega)) (nI_clamp (by omega)) (by show N * _ ≤ _; simp [componentBytes, newarray.typeOf]; omega) hc.1 hc.2 rfl fun H1 cA e1 z1 o1 hAr hNm => ?_
  have hcA : cA = D.2.1 0 := Option.some.inj (hNm.symm.trans (mm_arr hkx (t := 0) (by omega)).2)
  rw [← hz] at e1 z1 o1 ⊢
  rw [hcA] at e1
  exact kk H1 locs ls (mm_born h1 e1 z1 o1 (fun j => by rw [mm_avI (by decide), mI_nw, if_pos rfl]; rfl)) (mm_grown h2 hz z1 o1) h3
theorem g_newaB (X : Cx g own cc nL R0) (hw : Cond.arrayClass .byte ∈ lw_all) {x : Int32} {N q : Nat} (hx : x = nI N) (hN : N < 60000000) (hc : c + 1 ≤ R0.cells ∧ n + N ≤ R0.slots) (hq : mm_N S = q) {S' : Mm} (hS' : mm_nw S (.inr (1, N)) = S') (hd : decode cc pc = .ok (.newarray .byte, 2)) (kk : G g (c + 1) (n + N) S' (pc + 2) L (.ref q :: st)) : G g c n S pc L (.int x :: st) := by
  obtain ⟨p, l, e, R, s, m, args, below, meth, code, Q, D, B⟩ := g
  obtain ⟨hx0, hb, hml, hown, hts, hkx, -, -, -, hR⟩ := X
  subst hR
  subst hS'
  subst hx
  subst hq
  intro H locs ls h1 h2 h3
  have hz : mm_N S = H.size := h1.1
  refine va_newaK (atype := .byte) (N := N) hx0 hb (hts _ hw) rfl hd rfl (nI_pos (by omega)) (nI_clamp (by omega)) (by show N * _ ≤ _; simp [componentBytes, newarray.typeOf]; omega) hc.1 hc.2 rfl fun H1 cA e1 z1 o1 hAr hNm => ?_
  have hcA : cA = D.2.1 1 := Option.some.inj (hNm.symm.trans (mm_arr hkx (t := 1) (by omega)).2)
  rw [← hz] at e1 z1 o1 ⊢
  rw [hcA] at e1
  exact kk H1 locs ls (mm_born h1 e1 z1 o1 (fun j => by rw [mm_avI (by decide), mI_nw, if_pos rfl]; rfl)) (mm_grown h2 hz z1 o1) h3
theorem g_newaC (X : Cx g own cc nL R0) (hw : Cond.arrayClass .char ∈ lw_all) {x : Int32} {N q : Nat} (hx : x = nI N) (hN : N < 60000000) (hc : c + 1 ≤ R0.cells ∧ n + N ≤ R0.slots) (hq : mm_N S = q) {S' : Mm} (hS' : mm_nw S (.inr (2, N)) = S') (hd : decode cc pc = .ok (.newarray .char, 2)) (kk : G g (c + 1) (n + N) S' (pc + 2) L (.ref q :: st)) : G g c n S pc L (.int x :: st) := by
  obtain ⟨p, l, e, R, s, m, args, below, meth, code, Q, D, B⟩ := g
  obtain ⟨hx0, hb, hml, hown, hts, hkx, -, -, -, hR⟩ := X
  subst hR
  subst hS'
  subst hx
  subst hq
  intro H locs ls h1 h2 h3
  have hz : mm_N S = H.size := h1.1
  refine va_newaK (atype := .char) (N := N) hx0 hb (hts _ hw) rfl hd rfl (nI_pos (by omega)) (nI_clamp (by omega)) (by show N * _ ≤ _; simp [componentBytes, newarray.typeOf]; omega) hc.1 hc.2 rfl fun H1 cA e1 z1 o1 hAr hNm => ?_
  have hcA : cA = D.2.1 2 := Option.some.inj (hNm.symm.trans (mm_arr hkx (t := 2) (by omega)).2)
  rw [← hz] at e1 z1 o1 ⊢
  rw [hcA] at e1
  exact kk H1 locs ls (mm_born h1 e1 z1 o1 (fun j => by rw [mm_avI (by decide), mI_nw, if_pos rfl]; rfl)) (mm_grown h2 hz z1 o1) h3
theorem g_newaL (X : Cx g own cc nL R0) (hw : Cond.arrayClass .long ∈ lw_all) {x : Int32} {N q : Nat} (hx : x = nI N) (hN : N < 60000000) (hc : c + 1 ≤ R0.cells ∧ n + N ≤ R0.slots) (hq : mm_N S = q) {S' : Mm} (hS' : mm_nw S (.inr (8, N)) = S') (hd : decode cc pc = .ok (.newarray .long, 2)) (kk : G g (c + 1) (n + N) S' (pc + 2) L (.ref q :: st)) : G g c n S pc L (.int x :: st) := by
  obtain ⟨p, l, e, R, s, m, args, below, meth, code, Q, D, B⟩ := g
  obtain ⟨hx0, hb, hml, hown, hts, hkx, -, -, -, hR⟩ := X
  subst hR
  subst hS'
  subst hx
  subst hq
  intro H locs ls h1 h2 h3
  have hz : mm_N S = H.size := h1.1
  refine va_newaK (atype := .long) (N := N) hx0 hb (hts _ hw) rfl hd rfl (nI_pos (by omega)) (nI_clamp (by omega)) (by show N * _ ≤ _; simp [componentBytes, newarray.typeOf]; omega) hc.1 hc.2 rfl fun H1 cA e1 z1 o1 hAr hNm => ?_
  have hcA : cA = D.2.1 8 := Option.some.inj (hNm.symm.trans (mm_arr hkx (t := 8) (by omega)).2)
  rw [← hz] at e1 z1 o1 ⊢
  rw [hcA] at e1
  exact kk H1 locs ls (mm_born h1 e1 z1 o1 (fun j => by show Value.long (mm_L (mm_nw S (.inr (8, N))) (mm_N S) j) = _; rw [mL_nw, if_pos rfl]; rfl)) (mm_grown h2 hz z1 o1) h3
theorem g_newaD (X : Cx g own cc nL R0) (hw : Cond.arrayClass .double ∈ lw_all) {x : Int32} {N q : Nat} (hx : x = nI N) (hN : N < 60000000) (hc : c + 1 ≤ R0.cells ∧ n + N ≤ R0.slots) (hq : mm_N S = q) {S' : Mm} (hS' : mm_nw S (.inr (9, N)) = S') (hd : decode cc pc = .ok (.newarray .double, 2)) (kk : G g (c + 1) (n + N) S' (pc + 2) L (.ref q :: st)) : G g c n S pc L (.int x :: st) := by
  obtain ⟨p, l, e, R, s, m, args, below, meth, code, Q, D, B⟩ := g
  obtain ⟨hx0, hb, hml, hown, hts, hkx, -, -, -, hR⟩ := X
  subst hR
  subst hS'
  subst hx
  subst hq
  intro H locs ls h1 h2 h3
  have hz : mm_N S = H.size := h1.1
  refine va_newaK (atype := .double) (N := N) hx0 hb (hts _ hw) rfl hd rfl (nI_pos (by omega)) (nI_clamp (by omega)) (by show N * _ ≤ _; simp [componentBytes, newarray.typeOf]; omega) hc.1 hc.2 rfl fun H1 cA e1 z1 o1 hAr hNm => ?_
  have hcA : cA = D.2.1 9 := Option.some.inj (hNm.symm.trans (mm_arr hkx (t := 9) (by omega)).2)
  rw [← hz] at e1 z1 o1 ⊢
  rw [hcA] at e1
  exact kk H1 locs ls (mm_born h1 e1 z1 o1 (fun j => by show Value.double (mm_D (mm_nw S (.inr (9, N))) (mm_N S) j) = _; rw [mD_nw, if_pos rfl]; rfl)) (mm_grown h2 hz z1 o1) h3
theorem g_anewa (X : Cx g own cc nL R0) (hw : Cond.classLink own index "java/lang/Object" ∈ lw_all) {x : Int32} {N q : Nat} (hx : x = nI N) (hN : N < 60000000) (hc : c + 1 ≤ R0.cells ∧ n + N ≤ R0.slots) (hq : mm_N S = q) {S' : Mm} (hS' : mm_nw S (.inr (3, N)) = S') (hd : decode cc pc = .ok (.anewarray index, 3)) (kk : G g (c + 1) (n + N) S' (pc + 3) L (.ref q :: st)) : G g c n S pc L (.int x :: st) := by
  obtain ⟨p, l, e, R, s, m, args, below, meth, code, Q, D, B⟩ := g
  obtain ⟨hx0, hb, hml, hown, hts, hkx, -, -, -, hR⟩ := X
  subst hR
  subst hS'
  subst hx
  subst hq
  intro H locs ls h1 h2 h3
  have hz : mm_N S = H.size := h1.1
  have hcl : (nI N).toNatClampNeg = N := nI_clamp (by omega)
  refine W.anew hx0 hb hown (hts _ hw) (va_AO.use hkx.2.2.2.2.2.2.2.1) rfl hd rfl (nI_pos (by omega)) (by rw [hcl]; omega) hc.1 (by rw [hcl]; exact hc.2) fun cA kA comp f1 f2 f3 f4 => ?_
  have hcA : cA = D.2.1 3 := by
    obtain ⟨_, _, _, _, _, h9⟩ := (mm_arr hkx (t := 3) (by omega)).2
    exact Option.some.inj (f1.symm.trans h9)
  rw [hcl]
  generalize hH1 : H.push ({ cls := cA, slots := Array.replicate N .null, vm := .none } : Cell) = H1
  have z1 : H1.size = H.size + 1 := by rw [← hH1, Array.size_push]
  have e1 : H1[H.size]? = some (arrV cA N (fun _ => .null)) := by rw [← hH1, Array.getElem?_push_size, ← arrV_new]
  have o1 : ∀ q : Nat, q < H.size → H1[q]? = H[q]? := fun q hq => by rw [← hH1, Array.getElem?_push, if_neg (Nat.ne_of_lt hq)]
  rw [← hz] at e1 z1 o1 ⊢
  rw [hcA] at e1
  exact kk H1 locs ls (mm_born h1 e1 z1 o1 (fun j => by rw [mm_avR (by decide), mR_nw, if_pos rfl]; rfl)) (mm_grown h2 hz z1 o1) h3
theorem g_aast (X : Cx g own cc nL R0) {i : Int32} {j v : Nat} (hx : mm_ix i N j) (hK : mm_K S a = some (.inr (3, N))) (hw : gB g ≤ a) (ck : mm_C ci C T k) (hv : mm_K S v = some (.inl ci)) (hca : Cond.castable C "java/lang/Object" ∈ lw_tbl) {S' : Mm} (hS' : mm_sR S 99 j a (some v) = S') (hd : decode cc pc = .ok (.aastore, 1)) (kk : G g c n S' (pc + 1) L st) : G g c n S pc L (.ref v :: .int i :: .ref a :: st) := by
  obtain ⟨p, l, e, R, s, m, args, below, meth, code, Q, D, B⟩ := g
  obtain ⟨hx0, hb, hml, hown, hts, hkx, -⟩ := X
  subst hS'
  intro H locs ls h1 h2 h3
  obtain ⟨r, hr, cell, g1, g2, g3, -⟩ := (h1.2.2 _ _ hv).1
  cases Option.some.inj (hr.symm.trans ck.1)
  have hcls := (hkx.1.1 ci _ ck.1).2
  obtain ⟨kA, comp, k1, k2, k3, -⟩ := (mm_arr hkx (t := 3) (by omega)).2
  obtain ⟨kE, hkE, -⟩ := Vm.findClass_spec k3
  obtain ⟨c0, t1, f1, f2, f3⟩ := Cond.castable_spec (va_Nw.use (A := args) rfl (hkx.2.2.2.1 _ hca rfl))
  cases hcls.1.symm.trans f1
  cases k3.symm.trans f2
  obtain ⟨kC, hkC, -⟩ := hcls.2
  refine W.aast hx0 hb (h1.2.2 _ _ hK).1 (fun q h => by cases h) (fun h => by cases h) k1 k2 rfl hkE ⟨fun q => hx.1 (Or.inl q), by show _ < (arrV _ _ _).slots.size; rw [arrV_size, hx.2]; exact mm_jl hx⟩ g1 (fun q h => by rw [g3] at h; cases h) (by rw [g2]; exact hkC) (by rw [g2]; exact f3) rfl rfl hd fun H1 e1 z oq => ?_
  rw [hx.2] at e1
  refine kk H1 _ ls (mm_stored h1 hK rfl rfl e1 z oq (fun k => ?_) (fun _ _ _ _ => rfl) (fun q e c k => by rw [mR_sR, if_neg (fun z => e z.2.2)]) (fun _ _ _ => rfl) (fun _ _ _ => rfl)) (h2.put z oq hw) h3
  rw [mm_avR (by decide), mm_avR (by decide), mR_sR]
  by_cases e : k = j <;> simp [e, va_rf]
theorem g_aastN (X : Cx g own cc nL R0) {i : Int32} {j : Nat} (hx : mm_ix i N j) (hK : mm_K S a = some (.inr (3, N))) (hw : gB g ≤ a) {S' : Mm} (hS' : mm_sR S 99 j a none = S') (hd : decode cc pc = .ok (.aastore, 1)) (kk : G g c n S' (pc + 1) L st) : G g c n S pc L (.null :: .int i :: .ref a :: st) := by
  obtain ⟨p, l, e, R, s, m, args, below, meth, code, Q, D, B⟩ := g
  obtain ⟨hx0, hb, hml, hown, hts, hkx, -⟩ := X
  subst hS'
  intro H locs ls h1 h2 h3
  refine va_WaastN (C := "java/lang/Object") hx0 hb (h1.2.2 _ _ hK).1 ((mm_arr hkx (t := 3) (by omega)).1 _ _) (fun h => by cases h) (mm_in hx) rfl rfl hd fun H1 e1 z oq => ?_
  rw [hx.2] at e1
  refine kk H1 _ ls (mm_stored h1 hK rfl rfl e1 z oq (fun k => ?_) (fun _ _ _ _ => rfl) (fun q e c k => by rw [mR_sR, if_neg (fun z => e z.2.2)]) (fun _ _ _ => rfl) (fun _ _ _ => rfl)) (h2.put z oq hw) h3
  rw [mm_avR (by decide), mm_avR (by decide), mR_sR]
  by_cases e : k = j <;> simp [e, va_rf]
theorem g_gets (X : Cx g own cc nL R0) {v : Value} (hq : (C, nm, d, v) ∈ mm_st (gD g)) (hl : Cond.fieldLink own index C nm d ∈ lw_all) (hd : decode cc pc = .ok (.getstatic index, 3)) (kk : G g c n S (pc + 3) L (v :: st)) : G g c n S pc L st := by
  obtain ⟨p, l, e, R, s, m, args, below, meth, code, Q, D, B⟩ := g
  obtain ⟨hx0, hb, hml, hown, hts, hkx, -⟩ := X
  exact fun H locs ls h1 h2 h3 => va_gets hx0 hb (hkx.2.1 _ hq) h2 hown (hts _ hl) (fun _ h => h) hd (kk H locs ls h1 h2 h3)
theorem g_getsN (X : Cx g own cc nL R0) {v : Value} (hq : (C, nm, d, v) ∈ mm_st (gD g)) (hl : Cond.fieldLinkNest own index C nm d host ∈ lw_tbl) (hd : decode cc pc = .ok (.getstatic index, 3)) (kk : G g c n S (pc + 3) L (v :: st)) : G g c n S pc L st := by
  obtain ⟨p, l, e, R, s, m, args, below, meth, code, Q, D, B⟩ := g
  obtain ⟨hx0, hb, hml, hown, hts, hkx, -⟩ := X
  exact fun H locs ls h1 h2 h3 => va_getsN hx0 hb (hkx.2.1 _ hq) h2 hown (va_Nw.use rfl (hkx.2.2.2.1 _ hl rfl)) (fun _ h => h) hd (kk H locs ls h1 h2 h3)
theorem g_ldcS (X : Cx g own cc nL R0) {tx : String} {i : Nat} (hq : (own, index, tx, i) ∈ mm_strs) (hd : decode cc pc = .ok (.ldc index, 2)) (kk : G g c n S (pc + 2) L (.ref ((gD g).2.2 i) :: st)) : G g c n S pc L st := by
  obtain ⟨p, l, e, R, s, m, args, below, meth, code, Q, D, B⟩ := g
  obtain ⟨hx0, hb, hml, hown, hts, hkx, -⟩ := X
  exact fun H locs ls h1 h2 h3 => va_ldcS hx0 hb hown (hkx.2.2.2.2.2.2.1 _ hq) hd (kk H locs ls h1 h2 h3)
theorem g_ldc (X : Cx g own cc nL R0) {v : Int32} (hq : Cond.constant own index v ∈ lw_all) (hd : decode cc pc = .ok (.ldc index, 2)) (kk : G g c n S (pc + 2) L (.int v :: st)) : G g c n S pc L st := by
  obtain ⟨p, l, e, R, s, m, args, below, meth, code, Q, D, B⟩ := g
  obtain ⟨hx0, hb, hml, hown, hts, hkx, -⟩ := X
  exact fun H locs ls h1 h2 h3 => lv_ldc hx0 hb hown (hts _ hq) hd (kk H locs ls h1 h2 h3)
theorem g_chk (X : Cx g own cc nL R0) (ck : mm_C ci C T N) (hK : mm_K S a = some (.inl ci)) (hl : Cond.classLink own index nm ∈ lw_all) (hca : Cond.castable C nm ∈ lw_tbl) (hd : decode cc pc = .ok (.checkcast index, 3)) (kk : G g c n S (pc + 3) L (.ref a :: st)) : G g c n S pc L (.ref a :: st) := by
  obtain ⟨p, l, e, R, s, m, args, below, meth, code, Q, D, B⟩ := g
  obtain ⟨hx0, hb, hml, hown, hts, hkx, -⟩ := X
  exact fun H locs ls h1 h2 h3 => va_castY hx0 hb hown (hts _ hl) (hkx.2.2.2.1 _ hca rfl) (mm_recv hkx h1 ck hK) hd (kk H locs ls h1 h2 h3)
theorem g_chkS (X : Cx g own cc nL R0) (ck : mm_C ci C T N) (hK : mm_K S a = some (.inl ci)) (hl : Cond.classLink own index C ∈ lw_all) (hd : decode cc pc = .ok (.checkcast index, 3)) (kk : G g c n S (pc + 3) L (.ref a :: st)) : G g c n S pc L (.ref a :: st) := by
  obtain ⟨p, l, e, R, s, m, args, below, meth, code, Q, D, B⟩ := g
  obtain ⟨hx0, hb, hml, hown, hts, hkx, -⟩ := X
  exact fun H locs ls h1 h2 h3 => va_castS hx0 hb hown (hts _ hl) (hkx.1.1 ci _ ck.1).2 (mm_recv hkx h1 ck hK) hd (kk H locs ls h1 h2 h3)
theorem g_chkN (X : Cx g own cc nL R0) (hd : decode cc pc = .ok (.checkcast index, 3)) (kk : G g c n S (pc + 3) L (.null :: st)) : G g c n S pc L (.null :: st) := by
  obtain ⟨p, l, e, R, s, m, args, below, meth, code, Q, D, B⟩ := g
  obtain ⟨hx0, hb, hml, hown, hts, hkx, -⟩ := X
  exact fun H locs ls h1 h2 h3 => lv_castN hx0 hb hd (kk H locs ls h1 h2 h3)
theorem g_instY (X : Cx g own cc nL R0) (ck : mm_C ci C T N) (hK : mm_K S a = some (.inl ci)) (hl : Cond.classLink own index nm ∈ lw_all) (hca : Cond.castable C nm ∈ lw_tbl) (hd : decode cc pc = .ok (.instanceof index, 3)) (kk : G g c n S (pc + 3) L (.int 1 :: st)) : G g c n S pc L (.ref a :: st) := by
  obtain ⟨p, l, e, R, s, m, args, below, meth, code, Q, D, B⟩ := g
  obtain ⟨hx0, hb, hml, hown, hts, hkx, -⟩ := X
  exact fun H locs ls h1 h2 h3 => va_instY hx0 hb hown (hts _ hl) (hkx.2.2.2.1 _ hca rfl) (mm_recv hkx h1 ck hK) hd (kk H locs ls h1 h2 h3)
theorem g_instS (X : Cx g own cc nL R0) (ck : mm_C ci C T N) (hK : mm_K S a = some (.inl ci)) (hl : Cond.classLink own index C ∈ lw_all) (hd : decode cc pc = .ok (.instanceof index, 3)) (kk : G g c n S (pc + 3) L (.int 1 :: st)) : G g c n S pc L (.ref a :: st) := by
  obtain ⟨p, l, e, R, s, m, args, below, meth, code, Q, D, B⟩ := g
  obtain ⟨hx0, hb, hml, hown, hts, hkx, -⟩ := X
  exact fun H locs ls h1 h2 h3 => va_instS hx0 hb hown (hts _ hl) (hkx.1.1 ci _ ck.1).2 (mm_recv hkx h1 ck hK) hd (kk H locs ls h1 h2 h3)
theorem g_acmp_eq (X : Cx g own cc nL R0) {x y : Option Nat} {off : Int} {tgt : Nat} (hd : decode cc pc = .ok (.if_acmp .eq off, 3)) (ht : (pc : Int) + off = (tgt : Int)) (kt : x = y → G g c n S tgt L st) (kf : ¬ x = y → G g c n S (pc + 3) L st) : G g c n S pc L (va_rf y :: va_rf x :: st) := by
  obtain ⟨p, l, e, R, s, m, args, below, meth, code, Q, D, B⟩ := g
  obtain ⟨hx0, hb, hml, -⟩ := X
  exact fun H locs ls h1 h2 h3 => lv_acmp_eq hx0 hb hd ht (fun q => kt q H locs ls h1 h2 h3) (fun q => kf q H locs ls h1 h2 h3)
theorem g_acmp_ne (X : Cx g own cc nL R0) {x y : Option Nat} {off : Int} {tgt : Nat} (hd : decode cc pc = .ok (.if_acmp .ne off, 3)) (ht : (pc : Int) + off = (tgt : Int)) (kt : ¬ x = y → G g c n S tgt L st) (kf : x = y → G g c n S (pc + 3) L st) : G g c n S pc L (va_rf y :: va_rf x :: st) := by
  obtain ⟨p, l, e, R, s, m, args, below, meth, code, Q, D, B⟩ := g
  obtain ⟨hx0, hb, hml, -⟩ := X
  exact fun H locs ls h1 h2 h3 => lv_acmp_ne hx0 hb hd ht (fun q => kt q H locs ls h1 h2 h3) (fun q => kf q H locs ls h1 h2 h3)
theorem g_obj (X : Cx g own cc nL R0) (h1w : Cond.methodLink own index objectInit ∈ lw_all) (h2w : Cond.instanceMethod objectInit ∈ lw_all) (h3w : Cond.code objectInit ⟨#[0xb1]⟩ 1 none ∈ lw_all) (hf : 1 ≤ R0.frames) (hl : (st.map fun v => v.category).sum + 12 ≤ R0.locals) (hd : decode cc pc = .ok (.invokespecial index, 3)) (kk : G g c n S (pc + 3) L st) : G g c n S pc L (.ref a :: st) := by
  obtain ⟨p, l, e, R, s, m, args, below, meth, code, Q, D, B⟩ := g
  obtain ⟨hx0, hb, hml, hown, hts, hkx, -, -, -, hR⟩ := X
  subst hR
  exact fun H locs ls h1 h2 h3 => W.objInit hx0 hb hown (hts _ h1w) (hts _ h2w) (hts _ h3w) rfl h3.1 rfl hd hf (by rw [show 2 * (F0 m pc ls (.ref a :: st)).monitorRoom = 0 from rfl, Nat.zero_add]; exact hl) (kk H locs ls h1 h2 h3)
end HEAP2
