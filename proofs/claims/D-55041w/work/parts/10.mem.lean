/-- a cell's kind: an object of a class of the table, or an array (its type's number, its length) -/
abbrev Kd : Type := Nat ⊕ (Nat × Nat)
/-- the picture of the heap: kinds; int fields and elements by (class, field, address), an array's elements by (99, place, address); references likewise; longs, doubles; the heap's size -/
abbrev Mm : Type := (Nat → Option Kd) × (Nat → Nat → Nat → Int32) × (Nat → Nat → Nat → Option Nat) × (Nat → Nat → Int64) × (Nat → Nat → UInt64) × Nat
def mm_K (S : Mm) : Nat → Option Kd := S.1
def mm_I (S : Mm) : Nat → Nat → Nat → Int32 := S.2.1
def mm_R (S : Mm) : Nat → Nat → Nat → Option Nat := S.2.2.1
def mm_L (S : Mm) : Nat → Nat → Int64 := S.2.2.2.1
def mm_D (S : Mm) : Nat → Nat → UInt64 := S.2.2.2.2.1
def mm_N (S : Mm) : Nat := S.2.2.2.2.2
def mm_sI (S : Mm) (c k a : Nat) (v : Int32) : Mm := (mm_K S, (fun c' k' a' => if c' = c ∧ k' = k ∧ a' = a then v else mm_I S c' k' a'), mm_R S, mm_L S, mm_D S, mm_N S)
def mm_sR (S : Mm) (c k a : Nat) (v : Option Nat) : Mm := (mm_K S, mm_I S, (fun c' k' a' => if c' = c ∧ k' = k ∧ a' = a then v else mm_R S c' k' a'), mm_L S, mm_D S, mm_N S)
def mm_aI (S : Mm) (a : Nat) (f : Nat → Int32) : Mm := (mm_K S, (fun c' k' a' => if c' = 99 ∧ a' = a then f k' else mm_I S c' k' a'), mm_R S, mm_L S, mm_D S, mm_N S)
def mm_aR (S : Mm) (a : Nat) (f : Nat → Option Nat) : Mm := (mm_K S, mm_I S, (fun c' k' a' => if c' = 99 ∧ a' = a then f k' else mm_R S c' k' a'), mm_L S, mm_D S, mm_N S)
def mm_sL (S : Mm) (a i : Nat) (v : Int64) : Mm := (mm_K S, mm_I S, mm_R S, (fun a' i' => if a' = a ∧ i' = i then v else mm_L S a' i'), mm_D S, mm_N S)
def mm_sD (S : Mm) (a i : Nat) (v : UInt64) : Mm := (mm_K S, mm_I S, mm_R S, mm_L S, (fun a' i' => if a' = a ∧ i' = i then v else mm_D S a' i'), mm_N S)
/-- a new cell, all of it zero or null -/
def mm_nw (S : Mm) (κ : Kd) : Mm := ((fun q => if q = mm_N S then some κ else mm_K S q), (fun c k a => if a = mm_N S then 0 else mm_I S c k a), (fun c k a => if a = mm_N S then none else mm_R S c k a), (fun a i => if a = mm_N S then 0 else mm_L S a i), (fun a i => if a = mm_N S then 0 else mm_D S a i), mm_N S + 1)
/-- cells that the picture doesn't know are new, no more -/
def mm_up (S : Mm) (n : Nat) : Mm := (mm_K S, mm_I S, mm_R S, mm_L S, mm_D S, n)
section
variable (S : Mm) (c k a n i : Nat) (v : Int32) (r : Option Nat) (f : Nat → Int32) (h : Nat → Option Nat) (x : Int64) (y : UInt64) (κ : Kd)
theorem mK_sI : mm_K (mm_sI S c k a v) = mm_K S := rfl
theorem mK_sR : mm_K (mm_sR S c k a r) = mm_K S := rfl
theorem mK_aI : mm_K (mm_aI S a f) = mm_K S := rfl
theorem mK_aR : mm_K (mm_aR S a h) = mm_K S := rfl
theorem mK_sL : mm_K (mm_sL S a i x) = mm_K S := rfl
theorem mK_sD : mm_K (mm_sD S a i y) = mm_K S := rfl
theorem mK_up : mm_K (mm_up S n) = mm_K S := rfl
theorem mI_sR : mm_I (mm_sR S c k a r) = mm_I S := rfl
theorem mI_aR : mm_I (mm_aR S a h) = mm_I S := rfl
theorem mI_sL : mm_I (mm_sL S a i x) = mm_I S := rfl
theorem mI_sD : mm_I (mm_sD S a i y) = mm_I S := rfl
theorem mI_up : mm_I (mm_up S n) = mm_I S := rfl
theorem mR_sI : mm_R (mm_sI S c k a v) = mm_R S := rfl
theorem mR_aI : mm_R (mm_aI S a f) = mm_R S := rfl
theorem mR_sL : mm_R (mm_sL S a i x) = mm_R S := rfl
theorem mR_sD : mm_R (mm_sD S a i y) = mm_R S := rfl
theorem mR_up : mm_R (mm_up S n) = mm_R S := rfl
theorem mL_sI : mm_L (mm_sI S c k a v) = mm_L S := rfl
theorem mL_sR : mm_L (mm_sR S c k a r) = mm_L S := rfl
theorem mL_aI : mm_L (mm_aI S a f) = mm_L S := rfl
theorem mL_aR : mm_L (mm_aR S a h) = mm_L S := rfl
theorem mL_sD : mm_L (mm_sD S a i y) = mm_L S := rfl
theorem mL_up : mm_L (mm_up S n) = mm_L S := rfl
theorem mD_sI : mm_D (mm_sI S c k a v) = mm_D S := rfl
theorem mD_sR : mm_D (mm_sR S c k a r) = mm_D S := rfl
theorem mD_aI : mm_D (mm_aI S a f) = mm_D S := rfl
theorem mD_aR : mm_D (mm_aR S a h) = mm_D S := rfl
theorem mD_sL : mm_D (mm_sL S a i x) = mm_D S := rfl
theorem mD_up : mm_D (mm_up S n) = mm_D S := rfl
theorem mN_sI : mm_N (mm_sI S c k a v) = mm_N S := rfl
theorem mN_sR : mm_N (mm_sR S c k a r) = mm_N S := rfl
theorem mN_aI : mm_N (mm_aI S a f) = mm_N S := rfl
theorem mN_aR : mm_N (mm_aR S a h) = mm_N S := rfl
theorem mN_sL : mm_N (mm_sL S a i x) = mm_N S := rfl
theorem mN_sD : mm_N (mm_sD S a i y) = mm_N S := rfl
theorem mK_nw (q : Nat) : mm_K (mm_nw S κ) q = if q = mm_N S then some κ else mm_K S q := rfl
theorem mI_sI (c' k' a' : Nat) : mm_I (mm_sI S c k a v) c' k' a' = if c' = c ∧ k' = k ∧ a' = a then v else mm_I S c' k' a' := rfl
theorem mI_aI (c' k' a' : Nat) : mm_I (mm_aI S a f) c' k' a' = if c' = 99 ∧ a' = a then f k' else mm_I S c' k' a' := rfl
theorem mI_nw (c' k' a' : Nat) : mm_I (mm_nw S κ) c' k' a' = if a' = mm_N S then 0 else mm_I S c' k' a' := rfl
theorem mR_sR (c' k' a' : Nat) : mm_R (mm_sR S c k a r) c' k' a' = if c' = c ∧ k' = k ∧ a' = a then r else mm_R S c' k' a' := rfl
theorem mR_aR (c' k' a' : Nat) : mm_R (mm_aR S a h) c' k' a' = if c' = 99 ∧ a' = a then h k' else mm_R S c' k' a' := rfl
theorem mR_nw (c' k' a' : Nat) : mm_R (mm_nw S κ) c' k' a' = if a' = mm_N S then none else mm_R S c' k' a' := rfl
theorem mL_sL (a' i' : Nat) : mm_L (mm_sL S a i x) a' i' = if a' = a ∧ i' = i then x else mm_L S a' i' := rfl
theorem mL_nw (a' i' : Nat) : mm_L (mm_nw S κ) a' i' = if a' = mm_N S then 0 else mm_L S a' i' := rfl
theorem mD_sD (a' i' : Nat) : mm_D (mm_sD S a i y) a' i' = if a' = a ∧ i' = i then y else mm_D S a' i' := rfl
theorem mD_nw (a' i' : Nat) : mm_D (mm_nw S κ) a' i' = if a' = mm_N S then 0 else mm_D S a' i' := rfl
theorem mN_nw : mm_N (mm_nw S κ) = mm_N S + 1 := rfl
theorem mN_up : mm_N (mm_up S n) = n := rfl
end
/-! the machine's side of the picture -/
/-- the classes' and fields' numbers, the array classes, the constants' addresses -/
abbrev Dg : Type := va_G × (Nat → ClassId) × (Nat → Nat)
def mm_fv (S : Mm) (ci q k : Nat) : Value := if (mm_ty ci k).isReference = true then va_rf (mm_R S ci k q) else .int (mm_I S ci k q)
def mm_av (S : Mm) (t q j : Nat) : Value := if t = 8 then .long (mm_L S q j) else if t = 9 then .double (mm_D S q j) else if t = 3 ∨ t = 4 then va_rf (mm_R S 99 j q) else .int (mm_I S 99 j q)
/-- kinds whose cells may be older than the run: Strings, Integers, int, byte and reference arrays -/
def mm_ro (κ : Kd) : Bool := match κ with
  | .inl ci => ci == 6 || ci == 12
  | .inr (t, _) => t == 0 || t == 1 || t == 3 || t == 4
def mm_at (D : Dg) (S : Mm) (H : Heap) (q : Nat) (κ : Kd) : Prop := match κ with
  | .inl ci => ∃ r : vw_C, mm_cl[ci]? = some r ∧ t_OB q (D.1.1 ci) r.2.2 (D.1.2 ci) H (mm_fv S ci q)
  | .inr (t, n) => H[q]? = some (arrV (D.2.1 t) n (mm_av S t q))
def HP (D : Dg) (B : Nat) (S : Mm) (H : Heap) : Prop := mm_N S = H.size ∧ B ≤ H.size ∧ ∀ (q : Nat) (κ : Kd), mm_K S q = some κ → mm_at D S H q κ ∧ (q < B → mm_ro κ = true)
def mm_tys (D : Dg) : List (ClassId × FieldType) := [(D.2.1 0, .int), (D.2.1 1, .byte), (D.2.1 2, .char), (D.2.1 3, .object "java/lang/Object"), (D.2.1 4, .object "java/lang/Integer"), (D.2.1 8, .long), (D.2.1 9, .double)]
theorem mm_at.lt {D : Dg} {S : Mm} {H : Heap} {q : Nat} {κ : Kd} (h : mm_at D S H q κ) : q < H.size := by
  rcases κ with ci | ⟨t, n⟩
  · obtain ⟨r, -, cell, h2, -⟩ := h
    exact (Array.getElem?_eq_some_iff.mp h2).1
  · exact (Array.getElem?_eq_some_iff.mp h).1
theorem HP.lt {D : Dg} {B : Nat} {S : Mm} {H : Heap} (h : HP D B S H) {q : Nat} {κ : Kd} (hq : mm_K S q = some κ) : q < mm_N S := by
  rw [h.1]; exact (h.2.2 q κ hq).1.lt
theorem mm_at.kept {D : Dg} {S S' : Mm} {H H1 : Heap} {q : Nat} {κ : Kd} (h : mm_at D S H q κ) (hq : H1[q]? = H[q]?) (hI : ∀ c k, mm_I S' c k q = mm_I S c k q) (hR : ∀ c k, mm_R S' c k q = mm_R S c k q) (hL : ∀ i, mm_L S' q i = mm_L S q i) (hD : ∀ i, mm_D S' q i = mm_D S q i) : mm_at D S' H1 q κ := by
  rcases κ with ci | ⟨t, n⟩
  · obtain ⟨r, h1, h2⟩ := h
    refine ⟨r, h1, (h2.kept hq).to fun k _ => ?_⟩
    simp only [mm_fv, hI, hR]
  · show H1[q]? = _
    rw [hq, show H[q]? = some (arrV (D.2.1 t) n (mm_av S t q)) from h]
    congr 2
    funext j
    simp only [mm_av, hI, hR, hL, hD]

