def mm_wf (B : Nat) (S : Mm) : Prop := B ≤ mm_N S ∧ ∀ (q : Nat) (κ : Kd), mm_K S q = some κ → q < mm_N S
theorem G.wf {g : GX} {own : String} {cc : ByteArray} {nL : Nat} {R0 : Room} {c n pc : Nat} {S : Mm} {L : List (Nat × Value)} {st : List Value} (_X : Cx g own cc nL R0) (k : mm_wf (gB g) S → G g c n S pc L st) : G g c n S pc L st := by
  obtain ⟨p, l, e, R, s, m, args, below, meth, code, Q, D, B⟩ := g
  exact fun H locs ls h1 h2 h3 => k ⟨by rw [h1.1]; exact h1.2.1, fun q κ h => h1.lt h⟩ H locs ls h1 h2 h3
theorem mm_ne {B : Nat} {S : Mm} (h : mm_wf B S) {a : Nat} {κ : Kd} (hK : mm_K S a = some κ) : a ≠ mm_N S := fun e => Nat.lt_irrefl _ (e ▸ h.2 a κ hK)
theorem mm_Kn {B : Nat} {S : Mm} (h : mm_wf B S) {a : Nat} {κ κ' : Kd} (hK : mm_K S a = some κ) : mm_K (mm_nw S κ') a = some κ := by
  rw [mK_nw, if_neg (mm_ne h hK)]; exact hK
theorem mm_Kq {S : Mm} {q : Nat} {κ : Kd} (e : q = mm_N S) : mm_K (mm_nw S κ) q = some κ := by rw [mK_nw, if_pos e]
theorem mm_In {B : Nat} {S : Mm} (h : mm_wf B S) {a c k : Nat} {κ κ' : Kd} (hK : mm_K S a = some κ) : mm_I (mm_nw S κ') c k a = mm_I S c k a := by rw [mI_nw, if_neg (mm_ne h hK)]
theorem mm_Rn {B : Nat} {S : Mm} (h : mm_wf B S) {a c k : Nat} {κ κ' : Kd} (hK : mm_K S a = some κ) : mm_R (mm_nw S κ') c k a = mm_R S c k a := by rw [mR_nw, if_neg (mm_ne h hK)]
theorem mm_wfB {B : Nat} {S : Mm} (h : mm_wf B S) {q : Nat} (e : q = mm_N S) : B ≤ q := e ▸ h.1
theorem mm_wfn {B : Nat} {S : Mm} (h : mm_wf B S) {κ : Kd} : mm_wf B (mm_nw S κ) := by
  refine ⟨by rw [mN_nw]; have := h.1; omega, fun q κ' hq => ?_⟩
  rw [mK_nw] at hq
  rw [mN_nw]
  by_cases e : q = mm_N S
  · omega
  · rw [if_neg e] at hq
    have := h.2 q κ' hq
    omega
theorem mm_narR (ty : FieldType) (r : Option Nat) (h : ty.isReference = true) : narrow ty (va_rf r) = va_rf r := by
  cases r <;> cases ty <;> first | rfl | exact Bool.noConfusion (show false = true from h)
theorem mm_fitR (ty : FieldType) (r : Option Nat) (h : ty.isReference = true) : fits ty (va_rf r) = true := by
  cases r <;> cases ty <;> first | rfl | exact Bool.noConfusion (show false = true from h)
theorem mm_cat (r : Option Nat) : (va_rf r).category = 1 := by cases r <;> rfl
/-- what is thrown, over the same picture -/
def mm_thr (E0 : String) (S : Mm) : String → Nat → Mm → Prop := fun E _ S' => E = E0 ∧ ∃ n', mm_N S ≤ n' ∧ S' = mm_up S n'
theorem mm_npk {y : MethodName} {as : List Value} (k : Nat) (h : as.length = k) (h2 : mm_np y k) : mm_np y as.length := h ▸ h2
set_option maxRecDepth 100000 in
theorem thr_X1_85_at : ∀ w ∈ vx_at0 "CavePearls" 85 "java/lang/UnsupportedOperationException" ["java/lang/RuntimeException", "java/lang/Exception"], w ∈ lw_all ∨ (w ∈ lw_tbl ∧ mm_nest w = true) := lw_in2 _ [124, 585, 594, 606, 609, 611, 586, 587, 201, 202, 588, 593, 607, 830, 575, 831, 577, 832, 579, 589, 591, 581, 1885, 1886, 1887, 1024, 566, 1024, 1025, 1026, 1027, 568, 1027, 1028, 1029, 586, 570, 2277, 1784, 1785, 1786, 603, 1787, 1788, 1789, 1790, 584, 583, 1791] (by decide +kernel) (by decide +kernel)
set_option maxRecDepth 100000 in
theorem thr_X1_85_ok : ∀ w ∈ Cond.classLink "CavePearls" 83 "java/lang/UnsupportedOperationException" :: Cond.initialized "java/lang/UnsupportedOperationException" :: vx_at0 "CavePearls" 85 "java/lang/UnsupportedOperationException" ["java/lang/RuntimeException", "java/lang/Exception"], vx_ot w = true := by decide +kernel
set_option maxRecDepth 100000 in
theorem thr_X1_3_at : ∀ w ∈ vx_at0 "CavePearls" 3 "java/lang/IllegalArgumentException" ["java/lang/RuntimeException", "java/lang/Exception"], w ∈ lw_all ∨ (w ∈ lw_tbl ∧ mm_nest w = true) := lw_in2 _ [124, 585, 594, 606, 609, 611, 586, 587, 201, 202, 588, 593, 607, 830, 575, 831, 577, 832, 579, 589, 591, 581, 1512, 1513, 1514, 1024, 566, 1024, 1025, 1026, 1027, 568, 1027, 1028, 1029, 586, 570, 1511, 802, 803, 804, 600, 805, 806, 807, 808, 584, 583, 809] (by decide +kernel) (by decide +kernel)
set_option maxRecDepth 100000 in
theorem thr_X1_3_ok : ∀ w ∈ Cond.classLink "CavePearls" 1 "java/lang/IllegalArgumentException" :: Cond.initialized "java/lang/IllegalArgumentException" :: vx_at0 "CavePearls" 3 "java/lang/IllegalArgumentException" ["java/lang/RuntimeException", "java/lang/Exception"], vx_ot w = true := by decide +kernel
set_option maxRecDepth 100000 in
theorem thr_X1_18_at : ∀ w ∈ vx_at0 "CavePearls" 18 "java/lang/IndexOutOfBoundsException" ["java/lang/RuntimeException", "java/lang/Exception"], w ∈ lw_all ∨ (w ∈ lw_tbl ∧ mm_nest w = true) := lw_in2 _ [124, 585, 594, 606, 609, 611, 586, 587, 201, 202, 588, 593, 607, 830, 575, 831, 577, 832, 579, 589, 591, 581, 1569, 1570, 1571, 1024, 566, 1024, 1025, 1026, 1027, 568, 1027, 1028, 1029, 586, 570, 1568, 564, 565, 572, 573, 574, 576, 578, 580, 584, 583, 582] (by decide +kernel) (by decide +kernel)
set_option maxRecDepth 100000 in
theorem thr_X1_18_ok : ∀ w ∈ Cond.classLink "CavePearls" 16 "java/lang/IndexOutOfBoundsException" :: Cond.initialized "java/lang/IndexOutOfBoundsException" :: vx_at0 "CavePearls" 18 "java/lang/IndexOutOfBoundsException" ["java/lang/RuntimeException", "java/lang/Exception"], vx_ot w = true := by decide +kernel
set_option maxRecDepth 100000 in
theorem thr_X1_21_at : ∀ w ∈ vx_at0 "CavePearls" 21 "java/util/NoSuchElementException" ["java/lang/RuntimeException", "java/lang/Exception"], w ∈ lw_all ∨ (w ∈ lw_tbl ∧ mm_nest w = true) := lw_in2 _ [124, 585, 594, 606, 609, 611, 586, 587, 201, 202, 588, 593, 607, 830, 575, 831, 577, 832, 579, 589, 591, 581, 1021, 1022, 1023, 1024, 566, 1024, 1025, 1026, 1027, 568, 1027, 1028, 1029, 586, 570, 1595, 878, 879, 880, 605, 881, 882, 883, 884, 584, 583, 885] (by decide +kernel) (by decide +kernel)
set_option maxRecDepth 100000 in
theorem thr_X1_21_ok : ∀ w ∈ Cond.classLink "CavePearls" 19 "java/util/NoSuchElementException" :: Cond.initialized "java/util/NoSuchElementException" :: vx_at0 "CavePearls" 21 "java/util/NoSuchElementException" ["java/lang/RuntimeException", "java/lang/Exception"], vx_ot w = true := by decide +kernel
set_option maxRecDepth 100000 in
theorem thr_X1_367_at : ∀ w ∈ vx_at0 "CavePearls" 367 "java/lang/ArithmeticException" ["java/lang/RuntimeException", "java/lang/Exception"], w ∈ lw_all ∨ (w ∈ lw_tbl ∧ mm_nest w = true) := lw_in2 _ [124, 585, 594, 606, 609, 611, 586, 587, 201, 202, 588, 593, 607, 830, 575, 831, 577, 832, 579, 589, 591, 581, 3132, 3133, 3134, 1024, 566, 1024, 1025, 1026, 1027, 568, 1027, 1028, 1029, 586, 570, 3131, 3113, 3124, 3125, 598, 3119, 3120, 3122, 3118, 584, 583, 3117] (by decide +kernel) (by decide +kernel)
set_option maxRecDepth 100000 in
theorem thr_X1_367_ok : ∀ w ∈ Cond.classLink "CavePearls" 365 "java/lang/ArithmeticException" :: Cond.initialized "java/lang/ArithmeticException" :: vx_at0 "CavePearls" 367 "java/lang/ArithmeticException" ["java/lang/RuntimeException", "java/lang/Exception"], vx_ot w = true := by decide +kernel
set_option maxRecDepth 100000 in
theorem thr_X1_9_at : ∀ w ∈ vx_at0 "CavePearls" 9 "java/lang/IllegalStateException" ["java/lang/RuntimeException", "java/lang/Exception"], w ∈ lw_all ∨ (w ∈ lw_tbl ∧ mm_nest w = true) := lw_in2 _ [124, 585, 594, 606, 609, 611, 586, 587, 201, 202, 588, 593, 607, 830, 575, 831, 577, 832, 579, 589, 591, 581, 1814, 1815, 1816, 1024, 566, 1024, 1025, 1026, 1027, 568, 1027, 1028, 1029, 586, 570, 3169, 1805, 1806, 1807, 601, 1808, 1809, 1810, 1811, 584, 583, 1812] (by decide +kernel) (by decide +kernel)
set_option maxRecDepth 100000 in
theorem thr_X1_9_ok : ∀ w ∈ Cond.classLink "CavePearls" 7 "java/lang/IllegalStateException" :: Cond.initialized "java/lang/IllegalStateException" :: vx_at0 "CavePearls" 9 "java/lang/IllegalStateException" ["java/lang/RuntimeException", "java/lang/Exception"], vx_ot w = true := by decide +kernel
