/-- 1 for true, 0 for false -/
def bI (P : Prop) [Decidable P] : Int32 := if P then nI 1 else nI 0
theorem bI_0 {P : Prop} [Decidable P] : bI P = 0 ↔ ¬ P := by
  unfold bI
  by_cases h : P
  · rw [if_pos h]; exact ⟨fun e => absurd e (by decide), fun e => absurd h e⟩
  · rw [if_neg h]; exact ⟨fun _ => h, fun _ => rfl⟩
theorem bI_1 {P : Prop} [Decidable P] : ¬ bI P = 0 ↔ P := by rw [bI_0]; exact Decidable.not_not
theorem bI_t {P : Prop} [Decidable P] (h : P) : bI P = nI 1 := if_pos h
theorem bI_f {P : Prop} [Decidable P] (h : ¬ P) : bI P = nI 0 := if_neg h
theorem bI_nar {P : Prop} [Decidable P] : narrow .boolean (.int (bI P)) = .int (bI P) := by
  by_cases h : P
  · rw [bI_t h]; rfl
  · rw [bI_f h]; rfl
theorem nI_add0 (x : Int32) : x + nI 0 = x := Int32.add_zero x
theorem nI_z {n : Nat} (h : n < 2 ^ 31) : nI n = 0 ↔ n = 0 := by rw [← nI_0]; exact nI_eq h (by omega)
section NROWS
variable {g : GX} {own : String} {cc : ByteArray} {nL : Nat} {R0 : Room} {c n pc : Nat} {S : Mm} {L L' : List (Nat × Value)} {st : List Value}
theorem g_iaddN (X : Cx g own cc nL R0) {x y z : Nat} (hz : x + y = z) (hd : decode cc pc = .ok (.iadd, 1)) (kk : G g c n S (pc + 1) L (.int (nI z) :: st)) : G g c n S pc L (.int (nI y) :: .int (nI x) :: st) := by
  subst hz
  exact g_iadd X hd (by rw [nI_add]; exact kk)
theorem g_imulN (X : Cx g own cc nL R0) {x y z : Nat} (hz : x * y = z) (hd : decode cc pc = .ok (.imul, 1)) (kk : G g c n S (pc + 1) L (.int (nI z) :: st)) : G g c n S pc L (.int (nI y) :: .int (nI x) :: st) := by
  subst hz
  exact g_imul X hd (by rw [pk_mul]; exact kk)
theorem g_isubN (X : Cx g own cc nL R0) {x y z : Nat} (hz : y + z = x) (hd : decode cc pc = .ok (.isub, 1)) (kk : G g c n S (pc + 1) L (.int (nI z) :: st)) : G g c n S pc L (.int (nI y) :: .int (nI x) :: st) := by
  subst hz
  refine g_isub X hd ?_
  rw [pk_sub (by omega), show y + z - y = z by omega]
  exact kk
theorem g_idivN (X : Cx g own cc nL R0) {x y : Nat} (h1 : x < 2 ^ 31) (h2 : 0 < y) (h3 : y < 2 ^ 31) (hd : decode cc pc = .ok (.idiv, 1)) (kk : G g c n S (pc + 1) L (.int (nI (x / y)) :: st)) : G g c n S pc L (.int (nI y) :: .int (nI x) :: st) :=
  g_idiv X (fun e => absurd ((nI_z h3).mp e) (by omega)) hd (by rw [pk_div h1 h2 h3]; exact kk)
theorem g_iremN (X : Cx g own cc nL R0) {x y : Nat} (h1 : x < 2 ^ 31) (h2 : 0 < y) (h3 : y < 2 ^ 31) (hd : decode cc pc = .ok (.irem, 1)) (kk : G g c n S (pc + 1) L (.int (nI (x % y)) :: st)) : G g c n S pc L (.int (nI y) :: .int (nI x) :: st) :=
  g_irem X (fun e => absurd ((nI_z h3).mp e) (by omega)) hd (by rw [pk_rem h1 h2 h3]; exact kk)
theorem g_tableOut (X : Cx g own cc nL R0) {dflt lo hi : Int} {offs : Array Int} {len : Nat} {x : Int32} {tgt : Nat} (h : x.toInt < lo ∨ hi < x.toInt) (ht : (pc : Int) + dflt = (tgt : Int)) (hd : decode cc pc = .ok (.tableswitch dflt lo hi offs, len)) (kk : G g c n S tgt L st) : G g c n S pc L (.int x :: st) := by
  obtain ⟨p, l, e, R, s, m, args, below, meth, code, Q, D, B⟩ := g
  obtain ⟨hx, hb, hml, -⟩ := X
  exact fun H locs ls h1 h2 h3 => lv_tableOut hx hb hd h ht (kk H locs ls h1 h2 h3)
theorem g_tableIn (X : Cx g own cc nL R0) {dflt lo hi : Int} {offs : Array Int} {len : Nat} {x : Int32} {off : Int} {tgt : Nat} (h1 : ¬ x.toInt < lo) (h2 : ¬ hi < x.toInt) (ho : offs[(x.toInt - lo).toNat]? = some off) (ht : (pc : Int) + off = (tgt : Int)) (hd : decode cc pc = .ok (.tableswitch dflt lo hi offs, len)) (kk : G g c n S tgt L st) : G g c n S pc L (.int x :: st) := by
  obtain ⟨p, l, e, R, s, m, args, below, meth, code, Q, D, B⟩ := g
  obtain ⟨hx, hb, hml, -⟩ := X
  exact fun H locs ls h1' h2' h3' => lv_tableIn hx hb hd h1 h2 ho ht (kk H locs ls h1' h2' h3')
end NROWS
/-- the reference's state: its int fields, its arrays (1 w, 2 undos, 3 savedRow, 4 mind, 5 line, 6 input, 7 numbers) -/
abbrev Tw : Type := (Nat → Int32) × (Nat → Nat → Int32)
def twf (t : Tw) (k : Nat) (v : Int32) : Tw := ((fun k' => if k' = k then v else t.1 k'), t.2)
def tws (t : Tw) (j : Nat) (f : Nat → Int32) : Tw := (t.1, (fun j' => if j' = j then f else t.2 j'))
def tw (m : Nat) (S : Mm) (t : Tw) : Mm := (mm_K S, (fun c k a => if c = 7 ∧ a = m then t.1 k else if c = 99 ∧ m < a ∧ a < m + 8 then t.2 (a - m) k else mm_I S c k a), mm_R S, mm_L S, mm_D S, mm_N S)
def twK (B : Nat) (S : Mm) (m : Nat) : Prop := mm_K S m = some (.inl 7) ∧ mm_K S (m + 1) = some (.inr (0, 132)) ∧ mm_K S (m + 2) = some (.inr (0, 1056)) ∧ mm_K S (m + 3) = some (.inr (0, 132)) ∧ mm_K S (m + 4) = some (.inr (0, 132)) ∧ mm_K S (m + 5) = some (.inr (2, 40)) ∧ mm_K S (m + 6) = some (.inr (2, 60)) ∧ mm_K S (m + 7) = some (.inr (0, 2)) ∧
  mm_R S 7 5 m = some (m + 1) ∧ mm_R S 7 6 m = some (m + 2) ∧ mm_R S 7 7 m = some (m + 3) ∧ mm_R S 7 8 m = some (m + 4) ∧ mm_R S 7 12 m = some (m + 5) ∧ mm_R S 7 14 m = some (m + 6) ∧ mm_R S 7 17 m = some (m + 7) ∧ B ≤ m
theorem tws_tws {t : Tw} {j : Nat} {f g : Nat → Int32} : tws (tws t j f) j g = tws t j g := by
  show (t.1, fun j' => if j' = j then g else if j' = j then f else t.2 j') = (t.1, fun j' => if j' = j then g else t.2 j')
  congr 1
  funext j'
  by_cases e : j' = j
  · rw [if_pos e, if_pos e]
  · rw [if_neg e, if_neg e, if_neg e]
theorem G.locs {g : GX} {c n pc : Nat} {S : Mm} {L L' : List (Nat × Value)} {st : List Value} (is : List Nat) (hs : is.filterMap (fun i => L[i]?) = L') (k : G g c n S pc L' st) : G g c n S pc L st := by
  refine G.loc (fun q hq => ?_) k
  subst hs
  obtain ⟨i, -, hi⟩ := List.mem_filterMap.mp hq
  exact List.mem_of_getElem? hi
section TW
variable {B m : Nat} {S : Mm} {t : Tw}
theorem tK0 (h : twK B S m) : mm_K (tw m S t) (m) = some (.inl 7) := h.1
theorem tK1 (h : twK B S m) : mm_K (tw m S t) (m + 1) = some (.inr (0, 132)) := h.2.1
theorem tK2 (h : twK B S m) : mm_K (tw m S t) (m + 2) = some (.inr (0, 1056)) := h.2.2.1
theorem tK3 (h : twK B S m) : mm_K (tw m S t) (m + 3) = some (.inr (0, 132)) := h.2.2.2.1
theorem tK4 (h : twK B S m) : mm_K (tw m S t) (m + 4) = some (.inr (0, 132)) := h.2.2.2.2.1
theorem tK5 (h : twK B S m) : mm_K (tw m S t) (m + 5) = some (.inr (2, 40)) := h.2.2.2.2.2.1
theorem tK6 (h : twK B S m) : mm_K (tw m S t) (m + 6) = some (.inr (2, 60)) := h.2.2.2.2.2.2.1
theorem tK7 (h : twK B S m) : mm_K (tw m S t) (m + 7) = some (.inr (0, 2)) := h.2.2.2.2.2.2.2.1
theorem tR1 (h : twK B S m) : mm_R (tw m S t) 7 5 m = some (m + 1) := h.2.2.2.2.2.2.2.2.1
theorem tR2 (h : twK B S m) : mm_R (tw m S t) 7 6 m = some (m + 2) := h.2.2.2.2.2.2.2.2.2.1
theorem tR3 (h : twK B S m) : mm_R (tw m S t) 7 7 m = some (m + 3) := h.2.2.2.2.2.2.2.2.2.2.1
theorem tR4 (h : twK B S m) : mm_R (tw m S t) 7 8 m = some (m + 4) := h.2.2.2.2.2.2.2.2.2.2.2.1
theorem tR5 (h : twK B S m) : mm_R (tw m S t) 7 12 m = some (m + 5) := h.2.2.2.2.2.2.2.2.2.2.2.2.1
theorem tR6 (h : twK B S m) : mm_R (tw m S t) 7 14 m = some (m + 6) := h.2.2.2.2.2.2.2.2.2.2.2.2.2.1
theorem tR7 (h : twK B S m) : mm_R (tw m S t) 7 17 m = some (m + 7) := h.2.2.2.2.2.2.2.2.2.2.2.2.2.2.1
theorem tB (h : twK B S m) : B ≤ m := h.2.2.2.2.2.2.2.2.2.2.2.2.2.2.2
theorem tB1 (h : twK B S m) : B ≤ m + 1 := Nat.le_trans (tB h) (Nat.le_add_right _ _)
theorem tB2 (h : twK B S m) : B ≤ m + 2 := Nat.le_trans (tB h) (Nat.le_add_right _ _)
theorem tB3 (h : twK B S m) : B ≤ m + 3 := Nat.le_trans (tB h) (Nat.le_add_right _ _)
theorem tB4 (h : twK B S m) : B ≤ m + 4 := Nat.le_trans (tB h) (Nat.le_add_right _ _)
theorem tB5 (h : twK B S m) : B ≤ m + 5 := Nat.le_trans (tB h) (Nat.le_add_right _ _)
theorem tB6 (h : twK B S m) : B ≤ m + 6 := Nat.le_trans (tB h) (Nat.le_add_right _ _)
theorem tB7 (h : twK B S m) : B ≤ m + 7 := Nat.le_trans (tB h) (Nat.le_add_right _ _)
theorem tw_I {k : Nat} : mm_I (tw m S t) 7 k m = t.1 k := by
  show (if 7 = 7 ∧ m = m then t.1 k else _) = _
  rw [if_pos ⟨rfl, rfl⟩]
theorem tw_A {j i : Nat} (h : 0 < j ∧ j < 8) : mm_I (tw m S t) 99 i (m + j) = t.2 j i := by
  show (if 99 = 7 ∧ m + j = m then t.1 i else if 99 = 99 ∧ m < m + j ∧ m + j < m + 8 then t.2 (m + j - m) i else _) = _
  rw [if_neg (fun z => absurd z.1 (by decide)), if_pos ⟨rfl, by omega, by omega⟩, Nat.add_sub_cancel_left]
theorem tw_o {c k a : Nat} (h : ¬ (m ≤ a ∧ a < m + 8)) : mm_I (tw m S t) c k a = mm_I S c k a := by
  show (if c = 7 ∧ a = m then t.1 k else if c = 99 ∧ m < a ∧ a < m + 8 then t.2 (a - m) k else _) = _
  rw [if_neg (fun z => h ⟨by omega, by omega⟩), if_neg (fun z => h ⟨by omega, by omega⟩)]
theorem tw_sI {k : Nat} {v : Int32} : mm_sI (tw m S t) 7 k m v = tw m S (twf t k v) := by
  have h : (fun c' k' a' => if c' = 7 ∧ k' = k ∧ a' = m then v else mm_I (tw m S t) c' k' a') = (fun c' k' a' => if c' = 7 ∧ a' = m then (twf t k v).1 k' else if c' = 99 ∧ m < a' ∧ a' < m + 8 then (twf t k v).2 (a' - m) k' else mm_I S c' k' a') := by
    funext c' k' a'
    show (if c' = 7 ∧ k' = k ∧ a' = m then v else if c' = 7 ∧ a' = m then t.1 k' else if c' = 99 ∧ m < a' ∧ a' < m + 8 then t.2 (a' - m) k' else mm_I S c' k' a') = (if c' = 7 ∧ a' = m then (if k' = k then v else t.1 k') else if c' = 99 ∧ m < a' ∧ a' < m + 8 then t.2 (a' - m) k' else mm_I S c' k' a')
    by_cases e1 : c' = 7 ∧ a' = m
    · by_cases e2 : k' = k
      · rw [if_pos ⟨e1.1, e2, e1.2⟩, if_pos e1, if_pos e2]
      · rw [if_neg (fun z => e2 z.2.1), if_pos e1, if_pos e1, if_neg e2]
    · rw [if_neg (fun z => e1 ⟨z.1, z.2.2⟩), if_neg e1, if_neg e1]
  show (mm_K S, _, mm_R S, mm_L S, mm_D S, mm_N S) = (mm_K S, _, mm_R S, mm_L S, mm_D S, mm_N S)
  rw [h]
theorem tw_sA {j i : Nat} {v : Int32} (h : 0 < j ∧ j < 8) : mm_sI (tw m S t) 99 i (m + j) v = tw m S (tws t j (upd (t.2 j) i v)) := by
  have h9 : (fun c' k' a' => if c' = 99 ∧ k' = i ∧ a' = m + j then v else mm_I (tw m S t) c' k' a') = (fun c' k' a' => if c' = 7 ∧ a' = m then (tws t j (upd (t.2 j) i v)).1 k' else if c' = 99 ∧ m < a' ∧ a' < m + 8 then (tws t j (upd (t.2 j) i v)).2 (a' - m) k' else mm_I S c' k' a') := by
    funext c' k' a'
    show (if c' = 99 ∧ k' = i ∧ a' = m + j then v else if c' = 7 ∧ a' = m then t.1 k' else if c' = 99 ∧ m < a' ∧ a' < m + 8 then t.2 (a' - m) k' else mm_I S c' k' a') = (if c' = 7 ∧ a' = m then t.1 k' else if c' = 99 ∧ m < a' ∧ a' < m + 8 then (if a' - m = j then upd (t.2 j) i v else t.2 (a' - m)) k' else mm_I S c' k' a')
    by_cases e1 : c' = 99 ∧ a' = m + j
    · have e3 : a' - m = j := by omega
      rw [if_neg (show ¬ (c' = 7 ∧ a' = m) by omega), if_neg (show ¬ (c' = 7 ∧ a' = m) by omega), if_pos (show c' = 99 ∧ m < a' ∧ a' < m + 8 by omega), if_pos (show c' = 99 ∧ m < a' ∧ a' < m + 8 by omega), if_pos e3, e3]
      by_cases e2 : k' = i
      · rw [if_pos ⟨e1.1, e2, e1.2⟩, e2, pk_us]
      · rw [if_neg (fun z => e2 z.2.1), pk_un e2]
    · rw [if_neg (fun z => e1 ⟨z.1, z.2.2⟩)]
      by_cases e4 : c' = 99 ∧ m < a' ∧ a' < m + 8
      · rw [if_pos e4, if_pos e4, if_neg (show ¬ a' - m = j by omega)]
      · rw [if_neg e4, if_neg e4]
  show (mm_K S, _, mm_R S, mm_L S, mm_D S, mm_N S) = (mm_K S, _, mm_R S, mm_L S, mm_D S, mm_N S)
  rw [h9]
theorem tw_sA2 {t : Tw} {j i : Nat} {f : Nat → Int32} {v : Int32} (h : 0 < j ∧ j < 8) : mm_sI (tw m S (tws t j f)) 99 i (m + j) v = tw m S (tws t j (upd f i v)) := by
  rw [tw_sA h, tws_tws]
  show tw m S (tws t j (upd (if j = j then f else t.2 j) i v)) = _
  rw [if_pos rfl]
end TW

/-- the first n of f, then g -/
def cp (f g : Nat → Int32) (n : Nat) : Nat → Int32 := fun k => if k < n then f k else g k
theorem cp_0 {f g : Nat → Int32} : cp f g 0 = g := by funext k; simp [cp]
theorem cp_s {f g : Nat → Int32} {i : Nat} : upd (cp f g i) i (f i) = cp f g (i + 1) := by
  funext k
  by_cases e : k = i
  · subst e; rw [pk_us]; simp [cp]
  · rw [pk_un e]
    simp only [cp]
    by_cases h : k < i
    · rw [if_pos h, if_pos (by omega)]
    · rw [if_neg h, if_neg (by omega)]
theorem cp_lt {f g : Nat → Int32} {n k : Nat} (h : k < n) : cp f g n k = f k := if_pos h
theorem tws_self {t : Tw} {j : Nat} : tws t j (t.2 j) = t := by
  show (t.1, fun j' => if j' = j then t.2 j else t.2 j') = t
  have h : (fun j' => if j' = j then t.2 j else t.2 j') = t.2 := by
    funext j'
    by_cases e : j' = j
    · rw [if_pos e, e]
    · rw [if_neg e]
  rw [h]
/-- x is an index below n -/
abbrev ixb (x : Int32) (n : Nat) : Prop := 0 ≤ x.toInt ∧ x.toInt < (n : Int)
theorem ixb_of {x : Int32} {n : Nat} (h : ixb x n) : ∃ j : Nat, j < n ∧ x = nI j := by
  obtain ⟨h1, h2⟩ := h
  refine ⟨x.toInt.toNat, by omega, ?_⟩
  apply Int32.toInt_inj.mp
  rw [nI_toInt (by have := x.toInt_lt; omega)]
  omega
theorem ixb_nI {j n : Nat} (h : j < 2 ^ 31) : ixb (nI j) n ↔ j < n := by
  show (0 ≤ _ ∧ _) ↔ _
  rw [nI_toInt h]
  omega
theorem pk_sub1 {n : Nat} (hn : n < 2 ^ 31) : (nI n - nI 1).toInt = (n : Int) - 1 := by
  cases n with
  | zero => rfl
  | succ k => rw [pk_sub (by omega), nI_toInt (by omega)]; omega
theorem btw {x : Int32} {n : Nat} (hn : n < 2 ^ 31) : (nI 0 ≤ x ∧ x ≤ nI n - nI 1) ↔ ixb x n := by
  rw [Int32.le_iff_toInt_le, Int32.le_iff_toInt_le, nI_toInt (n := 0) (by omega), pk_sub1 hn]
  omega
theorem btw3 {x : Int32} : (nI 0 ≤ x ∧ x ≤ nI 3) ↔ ixb x 4 := by
  rw [Int32.le_iff_toInt_le, Int32.le_iff_toInt_le, nI_toInt (n := 0) (by omega), nI_toInt (n := 3) (by omega)]
  show _ ↔ (0 ≤ _ ∧ _)
  omega
