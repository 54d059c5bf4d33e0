/-- why a group can't enter: the code, the reason, the detail (d: what stood there) -/
def ne (w : Nat → Int32) (ng : Nat) (x y d : Int32) : Int32 × Int32 × Int32 :=
  if (nI 1 ≤ x ∧ x ≤ nI 20) ∧ (nI 1 ≤ y ∧ y ≤ nI 60) then (if nI 80 ≤ w 6 then (nI 2, nI 5, w 6) else if ng = 4 then (nI 2, nI 1, nI 4) else (nI 0, nI 0, d)) else (nI 1, nI 0, d)
/-- the state behind such a question -/
def nT (t : Tw) (n : Int32 × Int32 × Int32) : Tw := twf (twf t 3 n.2.1) 4 n.2.2
def fN (t : Tw) (x : Int32) : Tw := if 0 < t.1 3 then refT t x (t.1 3) (t.1 4) else twf t 0 x
theorem nT_0 {t : Tw} {x y : Int32} : twf t 3 x = nT t (y, x, t.1 4) := (twf_self (t := twf t 3 x) (k := 4) rfl).symm
theorem nT_3 {t : Tw} {a x y z : Int32} : twf (twf (twf t 3 a) 3 x) 4 z = nT t (y, x, z) := by
  show _ = twf (twf t 3 x) 4 z
  rw [twf_twf]
def rEnters (w : Nat → Int32) (ng : Nat) (x y : Int32) : Nat → Int32 := upd (upd (upd w (116 + 2 * ng) x) (116 + 2 * ng + 1) y) 4 (nI (ng + 1))
def oEnter (t : Tw) (ng fc ch : Nat) (x y : Int32) : Int32 × Tw :=
  if (ne (t.2 1) ng x y (t.1 4)).1 = 0 then (nI ng, tws (rem (nT (t0 t) (ne (t.2 1) ng x y (t.1 4))) fc ch) 1 (rEnters (t.2 1) ng x y)) else (nI 0, fN (nT (t0 t) (ne (t.2 1) ng x y (t.1 4))) (ne (t.2 1) ng x y (t.1 4)).1)
/-- the numbers of the groups behind g move up, as far as the place i -/
def shg (w : Nat → Int32) (g i : Nat) : Nat → Int32 := fun j => if 116 + 2 * g ≤ j ∧ j < i then w (j + 2) else w j
theorem shg_0 {w : Nat → Int32} {g : Nat} : shg w g (116 + 2 * g) = w := by
  funext j
  exact if_neg (by omega)
theorem shg_s {w : Nat → Int32} {g i : Nat} (h : 116 + 2 * g ≤ i) : upd (shg w g i) i (w (i + 2)) = shg w g (i + 1) := by
  funext j
  by_cases e : j = i
  · subst e; rw [pk_us]
    show _ = if _ then _ else _
    rw [if_pos (by omega)]
  · rw [pk_un e]
    show (if _ then _ else _) = if _ then _ else _
    by_cases h : 116 + 2 * g ≤ j ∧ j < i
    · rw [if_pos h, if_pos (by omega)]
    · rw [if_neg h, if_neg (by omega)]
theorem shg_hi {w : Nat → Int32} {g i j : Nat} (h : i ≤ j) : shg w g i j = w j := if_neg (by omega)
theorem shg_lo {w : Nat → Int32} {g i j : Nat} (h : j < 116 + 2 * g) : shg w g i j = w j := if_neg (by omega)
/-- the group g goes out, of ng -/
def rOut (w : Nat → Int32) (ng g : Nat) : Nat → Int32 := upd (upd (upd (if 116 + 2 * g < 116 + 2 * ng - 2 then shg w g (116 + 2 * ng - 2) else w) 4 (nI (ng - 1))) (116 + 2 * (ng - 1)) (nI 0)) (116 + 2 * (ng - 1) + 1) (nI 0)
theorem rOut_e {w : Nat → Int32} {ng g i : Nat} (hg : g < ng) (h1 : 116 + 2 * ng - 2 ≤ i) (h2 : i ≤ 116 + 2 * ng - 2) : shg w g i = (if 116 + 2 * g < 116 + 2 * ng - 2 then shg w g (116 + 2 * ng - 2) else w) := by
  have e : i = 116 + 2 * ng - 2 := by omega
  subst e
  by_cases h : 116 + 2 * g < 116 + 2 * ng - 2
  · rw [if_pos h]
  · rw [if_neg h, show 116 + 2 * ng - 2 = 116 + 2 * g by omega, shg_0]
def oSendOut (t : Tw) (ng fc ch : Nat) (x : Int32) : Int32 × Tw :=
  if ixb x ng then (t.2 1 (116 + 2 * cN x), tws (rem (t0 t) fc ch) 1 (rOut (t.2 1) ng (cN x))) else (nI 0, twf (t0 t) 0 (nI 1))
def oGroup (t : Tw) (ng : Nat) (x b : Int32) : Int32 × Tw :=
  if ixb x ng then ((if b = 0 then t.2 1 (116 + 2 * cN x + 0) else t.2 1 (116 + 2 * cN x + 1)), t0 t) else (nI 0, twf (t0 t) 0 (nI 1))
def prs (w : Nat → Int32) (ng : Nat) : Int32 := sI (fun g => w (116 + 2 * g)) ng
def rAddLamp (w : Nat → Int32) (nl p : Nat) : Nat → Int32 := upd (upd w (124 + 2 * nl) (nI p)) 3 (nI (nl + 1))
def oAddLamp (t : Tw) (np nl fc ch : Nat) (x : Int32) : Int32 × Tw :=
  if ixb x np then (if nl = 4 then (nI 0, refT (t0 t) (nI 2) (nI 1) (nI 4)) else (nI nl, tws (rem (t0 t) fc ch) 1 (rAddLamp (t.2 1) nl (cN x)))) else (nI 0, twf (t0 t) 0 (nI 1))
def lOn (w : Nat → Int32) (nl : Nat) : Int32 := sI (fun k => bI (0 < w (124 + 2 * k + 1))) nl
def nOn (w : Nat → Int32) (nl : Nat) (x y d : Int32) : Int32 × Int32 × Int32 :=
  if ixb x nl then (if nI 1 ≤ y ∧ y ≤ nI 60 then (if 0 < w (124 + 2 * cN x + 1) then (nI 3, nI 2, w (124 + 2 * cN x + 1)) else (nI 0, nI 0, d)) else (nI 2, nI 0, d)) else (nI 1, nI 0, d)
def rLights (w : Nat → Int32) (k : Nat) (y : Int32) : Nat → Int32 := upd w (124 + 2 * k + 1) y
def oSwitchOn (t : Tw) (nl fc ch : Nat) (x y : Int32) : Int32 × Tw :=
  if (nOn (t.2 1) nl x y (t.1 4)).1 = 0 then (lOn (rLights (t.2 1) (cN x) y) nl, tws (rem (nT (t0 t) (nOn (t.2 1) nl x y (t.1 4))) fc ch) 1 (rLights (t.2 1) (cN x) y)) else (nI 0, fN (nT (t0 t) (nOn (t.2 1) nl x y (t.1 4))) (nOn (t.2 1) nl x y (t.1 4)).1)
def nOff (w : Nat → Int32) (nl : Nat) (x d : Int32) : Int32 × Int32 × Int32 :=
  if ixb x nl then (if w (124 + 2 * cN x + 1) = 0 then (nI 2, nI 3, x) else (nI 0, nI 0, d)) else (nI 1, nI 0, d)
def rDark (w : Nat → Int32) (k : Nat) : Nat → Int32 := upd w (124 + 2 * k + 1) (nI 0)
def oSwitchOff (t : Tw) (nl fc ch : Nat) (x : Int32) : Int32 × Tw :=
  if (nOff (t.2 1) nl x (t.1 4)).1 = 0 then (t.2 1 (124 + 2 * cN x + 1), tws (rem (nT (t0 t) (nOff (t.2 1) nl x (t.1 4))) fc ch) 1 (rDark (t.2 1) (cN x))) else (nI 0, fN (nT (t0 t) (nOff (t.2 1) nl x (t.1 4))) (nOff (t.2 1) nl x (t.1 4)).1)
def oLamp (t : Tw) (nl : Nat) (x b : Int32) : Int32 × Tw :=
  if ixb x nl then ((if b = 0 then t.2 1 (124 + 2 * cN x + 0) else t.2 1 (124 + 2 * cN x + 1)), t0 t) else (nI 0, twf (t0 t) 0 (nI 1))
theorem bI_bI {P Q : Prop} [Decidable P] [Decidable Q] (hP : P) (hQ : Q) : P ∧ Q := ⟨hP, hQ⟩
theorem ne_3 {w : Nat → Int32} {ng : Nat} {x y d : Int32} (h4 : ng ≤ 4) (h : (ne w ng x y d).1 = 0) : ng < 4 := by
  unfold ne at h
  by_cases e : ng = 4
  · exfalso
    by_cases h1 : (nI 1 ≤ x ∧ x ≤ nI 20) ∧ (nI 1 ≤ y ∧ y ≤ nI 60)
    · rw [if_pos h1] at h
      by_cases h2 : nI 80 ≤ w 6
      · rw [if_pos h2] at h; exact absurd (show nI 2 = 0 from h) (by decide)
      · rw [if_neg h2, if_pos e] at h; exact absurd (show nI 2 = 0 from h) (by decide)
    · rw [if_neg h1] at h; exact absurd (show nI 1 = 0 from h) (by decide)
  · omega
set_option maxHeartbeats 4000000 in
set_option maxRecDepth 100000 in
theorem sp_X3_notEnter (l : Launch) (D : Dg) (B : Nat) (m : Nat) (S : Mm) (t : Tw) (hT : twK B S m) (ng : Nat) (hng : t.2 1 4 = nI ng) (hng4 : ng ≤ 4) (x y : Int32) : Sp eI l D B yX3_notEnter (ws_ yX3_notEnter cX3_notEnter 3 (some .int)) (rmL 2 0 0) [.ref m, .int x, .int y] (tw m S t) (fun v S' => v = (ne (t.2 1) ng x y (t.1 4)).1 ∧ S' = tw m S (nT t (ne (t.2 1) ng x y (t.1 4)))) (fun _ _ _ => False) := by
  refine Sp.of cX3_notEnter 3 (some .int) [(0, .ref m), (1, .int x), (2, .int y)] rfl (Nat.le_of_ble_eq_true rfl) rfl fun g X Y hr hnm hgl hgD hgB hex => ?_
  subst hgl hgD hgB
  refine g_aload_n X 0 rfl rfl dX3_notEnter_0 ?_
  refine g_iconst X (nI 0) (by first | rfl | decide) dX3_notEnter_1 ?_
  refine g_putV (S' := tw m S (twf t 3 (nI 0))) X mC_X3 3 (by decide) q3509 (mm_same.rf rfl) rfl (tK0 hT) (fun h => absurd h (by decide)) rfl rfl (.inl ⟨nI 0, rfl, rfl, tw_sI.symm⟩) dX3_notEnter_2 ?_
  refine g_iload_n X 1 rfl rfl dX3_notEnter_5 ?_
  refine g_iconst X (nI 1) (by first | rfl | decide) dX3_notEnter_6 ?_
  refine g_bipush X (nI 20) (by first | rfl | decide) dX3_notEnter_7 ?_
  refine g_callS (st := []) X (sp_X3_isBetween _ _ _ (tw m S (twf t 3 (nI 0))) x (nI 1) (nI 20)) q3575 q3576 q119 q3577 (mm_npk 3 rfl (by decide +kernel)) ⟨⟨Nat.le_of_ble_eq_true rfl, Nat.le_of_ble_eq_true rfl⟩, Nat.le_of_ble_eq_true rfl, Nat.le_of_ble_eq_true rfl⟩ rfl (Nat.le_of_ble_eq_true rfl) dX3_notEnter_9 (fun _ _ _ h => False.elim h) (fun v_9 S_9 p_9 => ?_)
  obtain ⟨rfl, rfl⟩ := p_9
  refine G.eq (show _ = ([.int (bI ((nI 1) ≤ x ∧ x ≤ (nI 20)))] : List Value) from rfl) ?_
  refine g_if_eq X dX3_notEnter_12 (tgt := 25) (by decide) (fun h_12 => ?_) (fun h_12 => ?_)
  · replace h_12 := bI_0.mp h_12
    refine g_iconst X (nI 1) (by first | rfl | decide) dX3_notEnter_25 ?_
    exact g_ireturn X Y hr rfl ⟨Nat.le_of_ble_eq_true rfl, Nat.le_of_ble_eq_true rfl⟩ dX3_notEnter_26 (by unfold ne; rw [if_neg (fun z => h_12 z.1)]; exact ⟨rfl, congrArg (tw m S) (nT_0)⟩)
  · replace h_12 := bI_1.mp h_12
    refine g_iload_n X 2 rfl rfl dX3_notEnter_15 ?_
    refine g_iconst X (nI 1) (by first | rfl | decide) dX3_notEnter_16 ?_
    refine g_bipush X (nI 60) (by first | rfl | decide) dX3_notEnter_17 ?_
    refine g_callS (st := []) X (sp_X3_isBetween _ _ _ (tw m S (twf t 3 (nI 0))) y (nI 1) (nI 60)) q3575 q3576 q119 q3577 (mm_npk 3 rfl (by decide +kernel)) ⟨⟨Nat.le_of_ble_eq_true rfl, Nat.le_of_ble_eq_true rfl⟩, Nat.le_of_ble_eq_true rfl, Nat.le_of_ble_eq_true rfl⟩ rfl (Nat.le_of_ble_eq_true rfl) dX3_notEnter_19 (fun _ _ _ h => False.elim h) (fun v_19f S_19f p_19f => ?_)
    obtain ⟨rfl, rfl⟩ := p_19f
    refine G.eq (show _ = ([.int (bI ((nI 1) ≤ y ∧ y ≤ (nI 60)))] : List Value) from rfl) ?_
    refine g_if_ne X dX3_notEnter_22 (tgt := 27) (by decide) (fun h_22f => ?_) (fun h_22f => ?_)
    · replace h_22f := bI_1.mp h_22f
      refine g_aload_n X 0 rfl rfl dX3_notEnter_27 ?_
      refine g_getR (v := some (m + 1)) X mC_X3 5 (by decide) q3511 (mm_same.rf rfl) rfl (tK0 hT) (tR1 hT) dX3_notEnter_28 ?_
      refine g_bipush X (nI 6) (by first | rfl | decide) dX3_notEnter_31 ?_
      refine g_iald (v := t.2 1 6) X (mm_ix.of rfl (by omega) (by omega)) (tK1 hT) (tw_A (by decide)) dX3_notEnter_33 ?_
      refine g_bipush X (nI 80) (by first | rfl | decide) dX3_notEnter_34 ?_
      refine g_icmp_lt X dX3_notEnter_36 (tgt := 53) (by decide) (fun h_36ft => ?_) (fun h_36ft => ?_)
      · refine g_aload_n X 0 rfl rfl dX3_notEnter_53 ?_
        refine g_getR (v := some (m + 1)) X mC_X3 5 (by decide) q3511 (mm_same.rf rfl) rfl (tK0 hT) (tR1 hT) dX3_notEnter_54 ?_
        refine g_iconst X (nI 4) (by first | rfl | decide) dX3_notEnter_57 ?_
        refine g_iald (v := nI ng) X (mm_ix.of rfl (by omega) (by omega)) (tK1 hT) ((tw_A (by decide)).trans (show t.2 1 4 = nI ng from hng)) dX3_notEnter_58 ?_
        refine g_iconst X (nI 4) (by first | rfl | decide) dX3_notEnter_59 ?_
        refine g_icmp_ne X dX3_notEnter_60 (tgt := 73) (by decide) (fun h_60ftt => ?_) (fun h_60ftt => ?_)
        · replace h_60ftt := mt (nI_eq (by omega) (by omega)).mpr h_60ftt
          refine g_iconst X (nI 0) (by first | rfl | decide) dX3_notEnter_73 ?_
          exact g_ireturn X Y hr rfl ⟨Nat.le_of_ble_eq_true rfl, Nat.le_of_ble_eq_true rfl⟩ dX3_notEnter_74 (by unfold ne; rw [if_pos ⟨h_12, h_22f⟩, if_neg (Int32.not_le.mpr h_36ft), if_neg h_60ftt]; exact ⟨rfl, congrArg (tw m S) (nT_0)⟩)
        · replace h_60ftt := (nI_eq (by omega) (by omega)).mp h_60ftt
          refine g_aload_n X 0 rfl rfl dX3_notEnter_63 ?_
          refine g_iconst X (nI 2) (by first | rfl | decide) dX3_notEnter_64 ?_
          refine g_iconst X (nI 1) (by first | rfl | decide) dX3_notEnter_65 ?_
          refine g_iconst X (nI 4) (by first | rfl | decide) dX3_notEnter_66 ?_
          refine g_callV (st := []) X (sp_X3_isNot _ _ _ m S (twf t 3 (nI 0)) hT (nI 2) (nI 1) (nI 4)) q3678 q3680 qs63 q119 q3681 ⟨rfl, (mm_npk 3 rfl (by decide +kernel))⟩ ⟨⟨Nat.le_of_ble_eq_true rfl, Nat.le_of_ble_eq_true rfl⟩, Nat.le_of_ble_eq_true rfl, Nat.le_of_ble_eq_true rfl⟩ mC_X3 (tK0 hT) rfl (Nat.le_of_ble_eq_true rfl) dX3_notEnter_67 (fun _ _ _ h => False.elim h) (fun v_67fttf S_67fttf p_67fttf => ?_)
          obtain ⟨rfl, rfl⟩ := p_67fttf
          refine G.eq (show _ = ([.int (nI 2)] : List Value) from rfl) ?_
          refine g_goto X dX3_notEnter_70 (tgt := 74) (by decide) ?_
          exact g_ireturn X Y hr rfl ⟨Nat.le_of_ble_eq_true rfl, Nat.le_of_ble_eq_true rfl⟩ dX3_notEnter_74 (by unfold ne; rw [if_pos ⟨h_12, h_22f⟩, if_neg (Int32.not_le.mpr h_36ft), if_pos h_60ftt]; exact ⟨rfl, congrArg (tw m S) (nT_3)⟩)
      · refine g_aload_n X 0 rfl rfl dX3_notEnter_39 ?_
        refine g_iconst X (nI 2) (by first | rfl | decide) dX3_notEnter_40 ?_
        refine g_iconst X (nI 5) (by first | rfl | decide) dX3_notEnter_41 ?_
        refine g_aload_n X 0 rfl rfl dX3_notEnter_42 ?_
        refine g_getR (v := some (m + 1)) X mC_X3 5 (by decide) q3511 (mm_same.rf rfl) rfl (tK0 hT) (tR1 hT) dX3_notEnter_43 ?_
        refine g_bipush X (nI 6) (by first | rfl | decide) dX3_notEnter_46 ?_
        refine g_iald (v := t.2 1 6) X (mm_ix.of rfl (by omega) (by omega)) (tK1 hT) (tw_A (by decide)) dX3_notEnter_48 ?_
        refine g_callV (st := []) X (sp_X3_isNot _ _ _ m S (twf t 3 (nI 0)) hT (nI 2) (nI 5) (t.2 1 6)) q3678 q3680 qs63 q119 q3681 ⟨rfl, (mm_npk 3 rfl (by decide +kernel))⟩ ⟨⟨Nat.le_of_ble_eq_true rfl, Nat.le_of_ble_eq_true rfl⟩, Nat.le_of_ble_eq_true rfl, Nat.le_of_ble_eq_true rfl⟩ mC_X3 (tK0 hT) rfl (Nat.le_of_ble_eq_true rfl) dX3_notEnter_49 (fun _ _ _ h => False.elim h) (fun v_49ftf S_49ftf p_49ftf => ?_)
        obtain ⟨rfl, rfl⟩ := p_49ftf
        refine G.eq (show _ = ([.int (nI 2)] : List Value) from rfl) ?_
        exact g_ireturn X Y hr rfl ⟨Nat.le_of_ble_eq_true rfl, Nat.le_of_ble_eq_true rfl⟩ dX3_notEnter_52 (by unfold ne; rw [if_pos ⟨h_12, h_22f⟩, if_pos (Int32.not_lt.mp h_36ft)]; exact ⟨rfl, congrArg (tw m S) (nT_3)⟩)
    · replace h_22f := bI_0.mp h_22f
      refine g_iconst X (nI 1) (by first | rfl | decide) dX3_notEnter_25 ?_
      exact g_ireturn X Y hr rfl ⟨Nat.le_of_ble_eq_true rfl, Nat.le_of_ble_eq_true rfl⟩ dX3_notEnter_26 (by unfold ne; rw [if_neg (fun z => h_22f z.2)]; exact ⟨rfl, congrArg (tw m S) (nT_0)⟩)
set_option maxHeartbeats 4000000 in
set_option maxRecDepth 100000 in
theorem sp_X3_enters (l : Launch) (D : Dg) (B : Nat) (m : Nat) (S : Mm) (t : Tw) (hT : twK B S m) (ng : Nat) (hng : t.2 1 4 = nI ng) (hng4 : ng ≤ 4) (hng3 : ng < 4) (x y : Int32) : Sp eI l D B yX3_enters (ws_ yX3_enters cX3_enters 4 (some .int)) (rmL 1 0 0) [.ref m, .int x, .int y] (tw m S t) (fun v S' => v = nI ng ∧ S' = tw m S (tws t 1 (rEnters (t.2 1) ng x y))) (fun _ _ _ => False) := by
  refine Sp.of cX3_enters 4 (some .int) [(0, .ref m), (1, .int x), (2, .int y)] rfl (Nat.le_of_ble_eq_true rfl) rfl fun g X Y hr hnm hgl hgD hgB hex => ?_
  subst hgl hgD hgB
  refine g_bipush X (nI 116) (by first | rfl | decide) dX3_enters_0 ?_
  refine g_iconst X (nI 2) (by first | rfl | decide) dX3_enters_2 ?_
  refine g_aload_n X 0 rfl rfl dX3_enters_3 ?_
  refine g_getR (v := some (m + 1)) X mC_X3 5 (by decide) q3511 (mm_same.rf rfl) rfl (tK0 hT) (tR1 hT) dX3_enters_4 ?_
  refine g_iconst X (nI 4) (by first | rfl | decide) dX3_enters_7 ?_
  refine g_iald (v := nI ng) X (mm_ix.of rfl (by omega) (by omega)) (tK1 hT) ((tw_A (by decide)).trans (show t.2 1 4 = nI ng from hng)) dX3_enters_8 ?_
  refine g_imulN X rfl dX3_enters_9 ?_
  refine g_iaddN X rfl dX3_enters_10 ?_
  refine g_istore_n (L' := [(3, .int (nI (116 + 2 * ng))), (0, .ref m), (1, .int x), (2, .int y)]) X (by decide) rfl rfl dX3_enters_11 ?_
  refine g_aload_n X 1 rfl rfl dX3_enters_12 ?_
  refine g_getR (v := some (m + 1)) X mC_X3 5 (by decide) q3511 (mm_same.rf rfl) rfl (tK0 hT) (tR1 hT) dX3_enters_13 ?_
  refine g_iload_n X 0 rfl rfl dX3_enters_16 ?_
  refine g_iload_n X 2 rfl rfl dX3_enters_17 ?_
  refine g_iast (v := x) (S' := tw m S (tws t 1 (upd (t.2 1) (116 + 2 * ng) x))) X (mm_ix.of rfl (by omega) (by omega)) (tK1 hT) (tB1 hT) rfl (tw_sA (by decide)) dX3_enters_18 ?_
  refine g_aload_n X 1 rfl rfl dX3_enters_19 ?_
  refine g_getR (v := some (m + 1)) X mC_X3 5 (by decide) q3511 (mm_same.rf rfl) rfl (tK0 hT) (tR1 hT) dX3_enters_20 ?_
  refine g_iload_n X 0 rfl rfl dX3_enters_23 ?_
  refine g_iconst X (nI 1) (by first | rfl | decide) dX3_enters_24 ?_
  refine g_iaddN X rfl dX3_enters_25 ?_
  refine g_iload_n X 3 rfl rfl dX3_enters_26 ?_
  refine g_iast (v := y) (S' := tw m S (tws t 1 (upd (upd (t.2 1) (116 + 2 * ng) x) (116 + 2 * ng + 1) y))) X (mm_ix.of rfl (by omega) (by omega)) (tK1 hT) (tB1 hT) rfl (tw_sA2 (by decide)) dX3_enters_27 ?_
  refine g_aload_n X 1 rfl rfl dX3_enters_28 ?_
  refine g_getR (v := some (m + 1)) X mC_X3 5 (by decide) q3511 (mm_same.rf rfl) rfl (tK0 hT) (tR1 hT) dX3_enters_29 ?_
  refine g_iconst X (nI 4) (by first | rfl | decide) dX3_enters_32 ?_
  refine g_dup2 X rfl rfl dX3_enters_33 ?_
  refine g_iald (v := nI ng) X (mm_ix.of rfl (by omega) (by omega)) (tK1 hT) ((tw_A (by decide)).trans (show (upd (upd (t.2 1) (116 + 2 * ng) x) (116 + 2 * ng + 1) y) 4 = nI ng from ((pk_un (by omega)).trans ((pk_un (by omega)).trans hng)))) dX3_enters_34 ?_
  refine g_iconst X (nI 1) (by first | rfl | decide) dX3_enters_35 ?_
  refine g_iaddN X rfl dX3_enters_36 ?_
  refine g_iast (v := nI (ng + 1)) (S' := tw m S (tws t 1 (upd (upd (upd (t.2 1) (116 + 2 * ng) x) (116 + 2 * ng + 1) y) 4 (nI (ng + 1))))) X (mm_ix.of rfl (by omega) (by omega)) (tK1 hT) (tB1 hT) rfl (tw_sA2 (by decide)) dX3_enters_37 ?_
  refine g_aload_n X 1 rfl rfl dX3_enters_38 ?_
  refine g_getR (v := some (m + 1)) X mC_X3 5 (by decide) q3511 (mm_same.rf rfl) rfl (tK0 hT) (tR1 hT) dX3_enters_39 ?_
  refine g_iconst X (nI 4) (by first | rfl | decide) dX3_enters_42 ?_
  refine g_iald (v := nI (ng + 1)) X (mm_ix.of rfl (by omega) (by omega)) (tK1 hT) ((tw_A (by decide)).trans (show (upd (upd (upd (t.2 1) (116 + 2 * ng) x) (116 + 2 * ng + 1) y) 4 (nI (ng + 1))) 4 = nI (ng + 1) from pk_us)) dX3_enters_43 ?_
  refine g_iconst X (nI 1) (by first | rfl | decide) dX3_enters_44 ?_
  refine g_isubN (z := ng) X (by omega) dX3_enters_45 ?_
  exact g_ireturn X Y hr rfl ⟨Nat.le_of_ble_eq_true rfl, Nat.le_of_ble_eq_true rfl⟩ dX3_enters_46 (⟨rfl, rfl⟩)
set_option maxHeartbeats 4000000 in
set_option maxRecDepth 100000 in
theorem sp_X3_enter (l : Launch) (D : Dg) (B : Nat) (m : Nat) (S : Mm) (t : Tw) (hT : twK B S m) (ng : Nat) (hng : t.2 1 4 = nI ng) (hng4 : ng ≤ 4) (fc ch : Nat) (hfc : t.1 10 = nI fc) (hfc8 : fc < 8) (hch : t.1 9 = nI ch) (hch8 : ch ≤ 8) (x y : Int32) : Sp eI l D B yX3_enter (ws_ yX3_enter cX3_enter 4 (some .int)) (rmL 4 0 0) [.ref m, .int x, .int y] (tw m S t) (fun v S' => v = (oEnter t ng fc ch x y).1 ∧ S' = tw m S ((oEnter t ng fc ch x y).2)) (fun _ _ _ => False) := by
  refine Sp.of cX3_enter 4 (some .int) [(0, .ref m), (1, .int x), (2, .int y)] rfl (Nat.le_of_ble_eq_true rfl) rfl fun g X Y hr hnm hgl hgD hgB hex => ?_
  subst hgl hgD hgB
  refine g_aload_n X 0 rfl rfl dX3_enter_0 ?_
  refine g_iconst X (nI 0) (by first | rfl | decide) dX3_enter_1 ?_
  refine g_putV (S' := tw m S (twf t 0 (nI 0))) X mC_X3 0 (by decide) q3506 (mm_same.rf rfl) rfl (tK0 hT) (fun h => absurd h (by decide)) rfl rfl (.inl ⟨nI 0, rfl, rfl, tw_sI.symm⟩) dX3_enter_2 ?_
  refine g_aload_n X 0 rfl rfl dX3_enter_5 ?_
  refine g_iload_n X 1 rfl rfl dX3_enter_6 ?_
  refine g_iload_n X 2 rfl rfl dX3_enter_7 ?_
  refine g_callV (st := []) X (sp_X3_notEnter _ _ _ m S (twf t 0 (nI 0)) hT ng hng hng4 x y) q3674 q3676 qs62 q119 q3677 ⟨rfl, (mm_npk 2 rfl (by decide +kernel))⟩ ⟨⟨Nat.le_of_ble_eq_true rfl, Nat.le_of_ble_eq_true rfl⟩, Nat.le_of_ble_eq_true rfl, Nat.le_of_ble_eq_true rfl⟩ mC_X3 (tK0 hT) rfl (Nat.le_of_ble_eq_true rfl) dX3_enter_8 (fun _ _ _ h => False.elim h) (fun v_8 S_8 p_8 => ?_)
  obtain ⟨rfl, rfl⟩ := p_8
  refine G.eq (show _ = ([.int ((ne (t.2 1) ng x y (t.1 4)).1)] : List Value) from rfl) ?_
  refine g_istore_n (L' := [(3, .int ((ne (t.2 1) ng x y (t.1 4)).1)), (0, .ref m), (1, .int x), (2, .int y)]) X (by decide) rfl rfl dX3_enter_11 ?_
  refine g_iload_n X 0 rfl rfl dX3_enter_12 ?_
  refine g_if_eq X dX3_enter_13 (tgt := 22) (by decide) (fun h_13 => ?_) (fun h_13 => ?_)
  · refine g_aload_n X 1 rfl rfl dX3_enter_22 ?_
    refine g_callV (st := []) X (sp_X3_remembers _ _ _ m S (nT (twf t 0 (nI 0)) (ne (t.2 1) ng x y (t.1 4))) hT fc ch hfc hfc8 hch hch8) q3586 q3588 qs49 q119 q3589 ⟨rfl, (mm_npk 0 rfl (by decide +kernel))⟩ ⟨⟨Nat.le_of_ble_eq_true rfl, Nat.le_of_ble_eq_true rfl⟩, Nat.le_of_ble_eq_true rfl, Nat.le_of_ble_eq_true rfl⟩ mC_X3 (tK0 hT) rfl (Nat.le_of_ble_eq_true rfl) dX3_enter_23 (fun _ _ _ h => False.elim h) (fun v_23t S_23t p_23t => ?_)
    obtain rfl := p_23t
    refine G.eq (show _ = ([] : List Value) from rfl) ?_
    refine g_aload_n X 1 rfl rfl dX3_enter_26 ?_
    refine g_iload_n X 2 rfl rfl dX3_enter_27 ?_
    refine g_iload_n X 3 rfl rfl dX3_enter_28 ?_
    refine g_callV (st := []) X (sp_X3_enters _ _ _ m S (rem (nT (twf t 0 (nI 0)) (ne (t.2 1) ng x y (t.1 4))) fc ch) hT ng hng hng4 (ne_3 hng4 h_13) x y) q3686 q3688 qs65 q119 q3689 ⟨rfl, (mm_npk 2 rfl (by decide +kernel))⟩ ⟨⟨Nat.le_of_ble_eq_true rfl, Nat.le_of_ble_eq_true rfl⟩, Nat.le_of_ble_eq_true rfl, Nat.le_of_ble_eq_true rfl⟩ mC_X3 (tK0 hT) rfl (Nat.le_of_ble_eq_true rfl) dX3_enter_29 (fun _ _ _ h => False.elim h) (fun v_29t S_29t p_29t => ?_)
    obtain ⟨rfl, rfl⟩ := p_29t
    refine G.eq (show _ = ([.int (nI ng)] : List Value) from rfl) ?_
    exact g_ireturn X Y hr rfl ⟨Nat.le_of_ble_eq_true rfl, Nat.le_of_ble_eq_true rfl⟩ dX3_enter_32 (by unfold oEnter; rw [if_pos h_13]; exact ⟨rfl, rfl⟩)
  · refine g_aload_n X 1 rfl rfl dX3_enter_16 ?_
    refine g_iload_n X 0 rfl rfl dX3_enter_17 ?_
    refine g_callV (st := []) X (sp_X3_failsNow _ _ _ m S (nT (twf t 0 (nI 0)) (ne (t.2 1) ng x y (t.1 4))) hT ((ne (t.2 1) ng x y (t.1 4)).1)) q3682 q3684 qs64 q119 q3685 ⟨rfl, (mm_npk 1 rfl (by decide +kernel))⟩ ⟨⟨Nat.le_of_ble_eq_true rfl, Nat.le_of_ble_eq_true rfl⟩, Nat.le_of_ble_eq_true rfl, Nat.le_of_ble_eq_true rfl⟩ mC_X3 (tK0 hT) rfl (Nat.le_of_ble_eq_true rfl) dX3_enter_18 (fun _ _ _ h => False.elim h) (fun v_18f S_18f p_18f => ?_)
    obtain ⟨rfl, rfl⟩ := p_18f
    refine G.eq (show _ = ([.int (nI 0)] : List Value) from rfl) ?_
    exact g_ireturn X Y hr rfl ⟨Nat.le_of_ble_eq_true rfl, Nat.le_of_ble_eq_true rfl⟩ dX3_enter_21 (by unfold oEnter; rw [if_neg h_13]; exact ⟨rfl, rfl⟩)
set_option maxHeartbeats 4000000 in
set_option maxRecDepth 100000 in
theorem sp_X3_goesOut (l : Launch) (D : Dg) (B : Nat) (m : Nat) (S : Mm) (t : Tw) (hT : twK B S m) (ng : Nat) (hng : t.2 1 4 = nI ng) (hng4 : ng ≤ 4) (g0 : Nat) (hg0 : g0 < ng) : Sp eV l D B yX3_goesOut (ws_ yX3_goesOut cX3_goesOut 3 none) (rmL 1 0 0) [.ref m, .int (nI g0)] (tw m S t) (fun v S' => S' = tw m S (tws t 1 (rOut (t.2 1) ng g0))) (fun _ _ _ => False) := by
  refine Sp.of cX3_goesOut 3 none [(0, .ref m), (1, .int (nI g0))] rfl (Nat.le_of_ble_eq_true rfl) rfl fun g X Y hr hnm hgl hgD hgB hex => ?_
  subst hgl hgD hgB
  refine g_bipush X (nI 116) (by first | rfl | decide) dX3_goesOut_0 ?_
  refine g_iconst X (nI 2) (by first | rfl | decide) dX3_goesOut_2 ?_
  refine g_iload_n X 1 rfl rfl dX3_goesOut_3 ?_
  refine g_imulN X rfl dX3_goesOut_4 ?_
  refine g_iaddN X rfl dX3_goesOut_5 ?_
  refine g_istore_n (L' := [(2, .int (nI (116 + 2 * g0))), (0, .ref m), (1, .int (nI g0))]) X (by decide) rfl rfl dX3_goesOut_6 ?_
  have key_7 : ∀ (k9 i : Nat) , (max (116 + 2 * ng - 2) (116 + 2 * g0)) < i + k9 → i ≤ (max (116 + 2 * ng - 2) (116 + 2 * g0)) → 116 + 2 * g0 ≤ i → G g 0 0 (tw m S (tws t 1 (shg (t.2 1) g0 i))) 7 [(2, .int (nI i)), (1, .int (nI g0)), (0, .ref m)] [] := by
    intro k9
    induction k9 with
    | zero => intro i  a1 a2; omega
    | succ k9 ih_7 =>
      intro i  a1 a2 a3
      refine g_iload_n X 0 rfl rfl dX3_goesOut_7 ?_
      refine g_bipush X (nI 116) (by first | rfl | decide) dX3_goesOut_8 ?_
      refine g_iconst X (nI 2) (by first | rfl | decide) dX3_goesOut_10 ?_
      refine g_aload_n X 2 rfl rfl dX3_goesOut_11 ?_
      refine g_getR (v := some (m + 1)) X mC_X3 5 (by decide) q3511 (mm_same.rf rfl) rfl (tK0 hT) (tR1 hT) dX3_goesOut_12 ?_
      refine g_iconst X (nI 4) (by first | rfl | decide) dX3_goesOut_15 ?_
      refine g_iald (v := nI ng) X (mm_ix.of rfl (by omega) (by omega)) (tK1 hT) ((tw_A (by decide)).trans (show (shg (t.2 1) g0 i) 4 = nI ng from ((shg_lo (by omega)).trans hng))) dX3_goesOut_16 ?_
      refine g_imulN X rfl dX3_goesOut_17 ?_
      refine g_iaddN X rfl dX3_goesOut_18 ?_
      refine g_iconst X (nI 2) (by first | rfl | decide) dX3_goesOut_19 ?_
      refine g_isubN (z := 116 + 2 * ng - 2) X (by omega) dX3_goesOut_20 ?_
      refine g_icmp_ge X dX3_goesOut_21 (tgt := 44) (by decide) (fun h_21L => ?_) (fun h_21L => ?_)
      · replace h_21L := (nI_leI (by omega) (by omega)).mp h_21L
        refine g_aload_n X 2 rfl rfl dX3_goesOut_44 ?_
        refine g_getR (v := some (m + 1)) X mC_X3 5 (by decide) q3511 (mm_same.rf rfl) rfl (tK0 hT) (tR1 hT) dX3_goesOut_45 ?_
        refine g_iconst X (nI 4) (by first | rfl | decide) dX3_goesOut_48 ?_
        refine g_dup2 X rfl rfl dX3_goesOut_49 ?_
        refine g_iald (v := nI ng) X (mm_ix.of rfl (by omega) (by omega)) (tK1 hT) ((tw_A (by decide)).trans (show (shg (t.2 1) g0 i) 4 = nI ng from ((shg_lo (by omega)).trans hng))) dX3_goesOut_50 ?_
        refine g_iconst X (nI 1) (by first | rfl | decide) dX3_goesOut_51 ?_
        refine g_isubN (z := ng - 1) X (by omega) dX3_goesOut_52 ?_
        refine g_iast (v := nI (ng - 1)) (S' := tw m S (tws t 1 (upd (shg (t.2 1) g0 i) 4 (nI (ng - 1))))) X (mm_ix.of rfl (by omega) (by omega)) (tK1 hT) (tB1 hT) rfl (tw_sA2 (by decide)) dX3_goesOut_53 ?_
        refine g_aload_n X 2 rfl rfl dX3_goesOut_54 ?_
        refine g_getR (v := some (m + 1)) X mC_X3 5 (by decide) q3511 (mm_same.rf rfl) rfl (tK0 hT) (tR1 hT) dX3_goesOut_55 ?_
        refine g_bipush X (nI 116) (by first | rfl | decide) dX3_goesOut_58 ?_
        refine g_iconst X (nI 2) (by first | rfl | decide) dX3_goesOut_60 ?_
        refine g_aload_n X 2 rfl rfl dX3_goesOut_61 ?_
        refine g_getR (v := some (m + 1)) X mC_X3 5 (by decide) q3511 (mm_same.rf rfl) rfl (tK0 hT) (tR1 hT) dX3_goesOut_62 ?_
        refine g_iconst X (nI 4) (by first | rfl | decide) dX3_goesOut_65 ?_
        refine g_iald (v := nI (ng - 1)) X (mm_ix.of rfl (by omega) (by omega)) (tK1 hT) ((tw_A (by decide)).trans (show (upd (shg (t.2 1) g0 i) 4 (nI (ng - 1))) 4 = nI (ng - 1) from pk_us)) dX3_goesOut_66 ?_
        refine g_imulN X rfl dX3_goesOut_67 ?_
        refine g_iaddN X rfl dX3_goesOut_68 ?_
        refine g_iconst X (nI 0) (by first | rfl | decide) dX3_goesOut_69 ?_
        refine g_iast (v := nI 0) (S' := tw m S (tws t 1 (upd (upd (shg (t.2 1) g0 i) 4 (nI (ng - 1))) (116 + 2 * (ng - 1)) (nI 0)))) X (mm_ix.of rfl (by omega) (by omega)) (tK1 hT) (tB1 hT) rfl (tw_sA2 (by decide)) dX3_goesOut_70 ?_
        refine g_aload_n X 2 rfl rfl dX3_goesOut_71 ?_
        refine g_getR (v := some (m + 1)) X mC_X3 5 (by decide) q3511 (mm_same.rf rfl) rfl (tK0 hT) (tR1 hT) dX3_goesOut_72 ?_
        refine g_bipush X (nI 116) (by first | rfl | decide) dX3_goesOut_75 ?_
        refine g_iconst X (nI 2) (by first | rfl | decide) dX3_goesOut_77 ?_
        refine g_aload_n X 2 rfl rfl dX3_goesOut_78 ?_
        refine g_getR (v := some (m + 1)) X mC_X3 5 (by decide) q3511 (mm_same.rf rfl) rfl (tK0 hT) (tR1 hT) dX3_goesOut_79 ?_
        refine g_iconst X (nI 4) (by first | rfl | decide) dX3_goesOut_82 ?_
        refine g_iald (v := nI (ng - 1)) X (mm_ix.of rfl (by omega) (by omega)) (tK1 hT) ((tw_A (by decide)).trans (show (upd (upd (shg (t.2 1) g0 i) 4 (nI (ng - 1))) (116 + 2 * (ng - 1)) (nI 0)) 4 = nI (ng - 1) from ((pk_un (by omega)).trans pk_us))) dX3_goesOut_83 ?_
        refine g_imulN X rfl dX3_goesOut_84 ?_
        refine g_iaddN X rfl dX3_goesOut_85 ?_
        refine g_iconst X (nI 1) (by first | rfl | decide) dX3_goesOut_86 ?_
        refine g_iaddN X rfl dX3_goesOut_87 ?_
        refine g_iconst X (nI 0) (by first | rfl | decide) dX3_goesOut_88 ?_
        refine g_iast (v := nI 0) (S' := tw m S (tws t 1 (upd (upd (upd (shg (t.2 1) g0 i) 4 (nI (ng - 1))) (116 + 2 * (ng - 1)) (nI 0)) (116 + 2 * (ng - 1) + 1) (nI 0)))) X (mm_ix.of rfl (by omega) (by omega)) (tK1 hT) (tB1 hT) rfl (tw_sA2 (by decide)) dX3_goesOut_89 ?_
        exact g_return X Y hr ⟨Nat.le_of_ble_eq_true rfl, Nat.le_of_ble_eq_true rfl⟩ dX3_goesOut_90 (by
            rw [rOut_e hg0 (by omega) (by omega)]; rfl)
      · replace h_21L := mt (nI_leI (by omega) (by omega)).mpr h_21L
        refine g_aload_n X 2 rfl rfl dX3_goesOut_24 ?_
        refine g_getR (v := some (m + 1)) X mC_X3 5 (by decide) q3511 (mm_same.rf rfl) rfl (tK0 hT) (tR1 hT) dX3_goesOut_25 ?_
        refine g_iload_n X 0 rfl rfl dX3_goesOut_28 ?_
        refine g_aload_n X 2 rfl rfl dX3_goesOut_29 ?_
        refine g_getR (v := some (m + 1)) X mC_X3 5 (by decide) q3511 (mm_same.rf rfl) rfl (tK0 hT) (tR1 hT) dX3_goesOut_30 ?_
        refine g_iload_n X 0 rfl rfl dX3_goesOut_33 ?_
        refine g_iconst X (nI 2) (by first | rfl | decide) dX3_goesOut_34 ?_
        refine g_iaddN X rfl dX3_goesOut_35 ?_
        refine g_iald (v := t.2 1 (i + 2)) X (mm_ix.of rfl (by omega) (by omega)) (tK1 hT) ((tw_A (by decide)).trans (show (shg (t.2 1) g0 i) (i + 2) = t.2 1 (i + 2) from (shg_hi (by omega)))) dX3_goesOut_36 ?_
        refine g_iast (v := t.2 1 (i + 2)) (S' := tw m S (tws t 1 (upd (shg (t.2 1) g0 i) i (t.2 1 (i + 2))))) X (mm_ix.of rfl (by omega) (by omega)) (tK1 hT) (tB1 hT) rfl (tw_sA2 (by decide)) dX3_goesOut_37 ?_
        refine g_iinc (L' := [(2, .int (nI (i + 1))), (1, .int (nI g0)), (0, .ref m)]) X 0 (nI (i + 1)) rfl (nI_1 _) (by decide) rfl dX3_goesOut_38 ?_
        refine g_goto X dX3_goesOut_41 (tgt := 7) (by decide) ?_
        refine G.mem (S' := tw m S (tws t 1 (shg (t.2 1) g0 (i + 1)))) (by rw [shg_s a3]) ?_
        exact ih_7 (i + 1) (by omega) (by omega) (by omega)
  refine G.mem (S' := tw m S (tws t 1 (shg (t.2 1) g0 (116 + 2 * g0)))) (by rw [shg_0, tws_self]) ?_
  refine G.locs (L' := [(2, .int (nI (116 + 2 * g0))), (1, .int (nI g0)), (0, .ref m)]) [0, 2, 1] rfl ?_
  exact key_7 ((max (116 + 2 * ng - 2) (116 + 2 * g0)) + 1) (116 + 2 * g0)  (by omega) (by omega) (by omega)
set_option maxHeartbeats 4000000 in
set_option maxRecDepth 100000 in
theorem sp_X3_sendOut (l : Launch) (D : Dg) (B : Nat) (m : Nat) (S : Mm) (t : Tw) (hT : twK B S m) (ng : Nat) (hng : t.2 1 4 = nI ng) (hng4 : ng ≤ 4) (fc ch : Nat) (hfc : t.1 10 = nI fc) (hfc8 : fc < 8) (hch : t.1 9 = nI ch) (hch8 : ch ≤ 8) (x : Int32) : Sp eI l D B yX3_sendOut (ws_ yX3_sendOut cX3_sendOut 3 (some .int)) (rmL 3 0 0) [.ref m, .int x] (tw m S t) (fun v S' => v = (oSendOut t ng fc ch x).1 ∧ S' = tw m S ((oSendOut t ng fc ch x).2)) (fun _ _ _ => False) := by
  refine Sp.of cX3_sendOut 3 (some .int) [(0, .ref m), (1, .int x)] rfl (Nat.le_of_ble_eq_true rfl) rfl fun g X Y hr hnm hgl hgD hgB hex => ?_
  subst hgl hgD hgB
  refine g_aload_n X 0 rfl rfl dX3_sendOut_0 ?_
  refine g_iconst X (nI 0) (by first | rfl | decide) dX3_sendOut_1 ?_
  refine g_putV (S' := tw m S (twf t 0 (nI 0))) X mC_X3 0 (by decide) q3506 (mm_same.rf rfl) rfl (tK0 hT) (fun h => absurd h (by decide)) rfl rfl (.inl ⟨nI 0, rfl, rfl, tw_sI.symm⟩) dX3_sendOut_2 ?_
  refine g_aload_n X 0 rfl rfl dX3_sendOut_5 ?_
  refine g_iload_n X 1 rfl rfl dX3_sendOut_6 ?_
  refine g_callV (st := []) X (sp_X3_isGroup _ _ _ m S (twf t 0 (nI 0)) hT x ng hng (by omega)) q3694 q3696 qs66 q119 q3697 ⟨rfl, (mm_npk 1 rfl (by decide +kernel))⟩ ⟨⟨Nat.le_of_ble_eq_true rfl, Nat.le_of_ble_eq_true rfl⟩, Nat.le_of_ble_eq_true rfl, Nat.le_of_ble_eq_true rfl⟩ mC_X3 (tK0 hT) rfl (Nat.le_of_ble_eq_true rfl) dX3_sendOut_7 (fun _ _ _ h => False.elim h) (fun v_7 S_7 p_7 => ?_)
  obtain ⟨rfl, rfl⟩ := p_7
  refine G.eq (show _ = ([.int (bI (ixb x ng))] : List Value) from rfl) ?_
  refine g_if_ne X dX3_sendOut_10 (tgt := 19) (by decide) (fun h_10 => ?_) (fun h_10 => ?_)
  · replace h_10 := bI_1.mp h_10
    obtain ⟨p, hp, rfl⟩ := ixb_of h_10
    refine g_aload_n X 0 rfl rfl dX3_sendOut_19 ?_
    refine g_callV (st := []) X (sp_X3_remembers _ _ _ m S (twf t 0 (nI 0)) hT fc ch hfc hfc8 hch hch8) q3586 q3588 qs49 q119 q3589 ⟨rfl, (mm_npk 0 rfl (by decide +kernel))⟩ ⟨⟨Nat.le_of_ble_eq_true rfl, Nat.le_of_ble_eq_true rfl⟩, Nat.le_of_ble_eq_true rfl, Nat.le_of_ble_eq_true rfl⟩ mC_X3 (tK0 hT) rfl (Nat.le_of_ble_eq_true rfl) dX3_sendOut_20 (fun _ _ _ h => False.elim h) (fun v_20t S_20t p_20t => ?_)
    obtain rfl := p_20t
    refine G.eq (show _ = ([] : List Value) from rfl) ?_
    refine g_aload_n X 0 rfl rfl dX3_sendOut_23 ?_
    refine g_getR (v := some (m + 1)) X mC_X3 5 (by decide) q3511 (mm_same.rf rfl) rfl (tK0 hT) (tR1 hT) dX3_sendOut_24 ?_
    refine g_bipush X (nI 116) (by first | rfl | decide) dX3_sendOut_27 ?_
    refine g_iconst X (nI 2) (by first | rfl | decide) dX3_sendOut_29 ?_
    refine g_iload_n X 1 rfl rfl dX3_sendOut_30 ?_
    refine g_imulN X rfl dX3_sendOut_31 ?_
    refine g_iaddN X rfl dX3_sendOut_32 ?_
    refine g_iald (v := t.2 1 (116 + 2 * p)) X (mm_ix.of rfl (by omega) (by omega)) (tK1 hT) (tw_A (by decide)) dX3_sendOut_33 ?_
    refine g_istore_n (L' := [(2, .int (t.2 1 (116 + 2 * p))), (0, .ref m), (1, .int (nI p))]) X (by decide) rfl rfl dX3_sendOut_34 ?_
    refine g_aload_n X 1 rfl rfl dX3_sendOut_35 ?_
    refine g_iload_n X 2 rfl rfl dX3_sendOut_36 ?_
    refine g_callV (st := []) X (sp_X3_goesOut _ _ _ m S (rem (twf t 0 (nI 0)) fc ch) hT ng hng hng4 p hp) q3698 q3700 qs67 q119 q3701 ⟨rfl, (mm_npk 1 rfl (by decide +kernel))⟩ ⟨⟨Nat.le_of_ble_eq_true rfl, Nat.le_of_ble_eq_true rfl⟩, Nat.le_of_ble_eq_true rfl, Nat.le_of_ble_eq_true rfl⟩ mC_X3 (tK0 hT) rfl (Nat.le_of_ble_eq_true rfl) dX3_sendOut_37 (fun _ _ _ h => False.elim h) (fun v_37t S_37t p_37t => ?_)
    obtain rfl := p_37t
    refine G.eq (show _ = ([] : List Value) from rfl) ?_
    refine g_iload_n X 0 rfl rfl dX3_sendOut_40 ?_
    exact g_ireturn X Y hr rfl ⟨Nat.le_of_ble_eq_true rfl, Nat.le_of_ble_eq_true rfl⟩ dX3_sendOut_41 (by unfold oSendOut; rw [if_pos ((ixb_nI (by omega)).mpr hp), cN_nI (by omega)]; exact ⟨rfl, rfl⟩)
  · replace h_10 := bI_0.mp h_10
    refine g_aload_n X 0 rfl rfl dX3_sendOut_13 ?_
    refine g_iconst X (nI 1) (by first | rfl | decide) dX3_sendOut_14 ?_
    refine g_callV (st := []) X (sp_X3_fails _ _ _ m S (twf t 0 (nI 0)) hT (nI 1)) q3578 q3580 qs47 q119 q3581 ⟨rfl, (mm_npk 1 rfl (by decide +kernel))⟩ ⟨⟨Nat.le_of_ble_eq_true rfl, Nat.le_of_ble_eq_true rfl⟩, Nat.le_of_ble_eq_true rfl, Nat.le_of_ble_eq_true rfl⟩ mC_X3 (tK0 hT) rfl (Nat.le_of_ble_eq_true rfl) dX3_sendOut_15 (fun _ _ _ h => False.elim h) (fun v_15f S_15f p_15f => ?_)
    obtain ⟨rfl, rfl⟩ := p_15f
    refine G.eq (show _ = ([.int (nI 0)] : List Value) from rfl) ?_
    exact g_ireturn X Y hr rfl ⟨Nat.le_of_ble_eq_true rfl, Nat.le_of_ble_eq_true rfl⟩ dX3_sendOut_18 (by unfold oSendOut; rw [if_neg h_10]; exact ⟨rfl, rfl⟩)
set_option maxHeartbeats 4000000 in
set_option maxRecDepth 100000 in
theorem sp_X3_group (l : Launch) (D : Dg) (B : Nat) (m : Nat) (S : Mm) (t : Tw) (hT : twK B S m) (ng : Nat) (hng : t.2 1 4 = nI ng) (hng4 : ng ≤ 4) (x b : Int32) : Sp eI l D B yX3_group (ws_ yX3_group cX3_group 3 (some .int)) (rmL 3 0 0) [.ref m, .int x, .int b] (tw m S t) (fun v S' => v = (oGroup t ng x b).1 ∧ S' = tw m S ((oGroup t ng x b).2)) (fun _ _ _ => False) := by
  refine Sp.of cX3_group 3 (some .int) [(0, .ref m), (1, .int x), (2, .int b)] rfl (Nat.le_of_ble_eq_true rfl) rfl fun g X Y hr hnm hgl hgD hgB hex => ?_
  subst hgl hgD hgB
  refine g_aload_n X 0 rfl rfl dX3_group_0 ?_
  refine g_iconst X (nI 0) (by first | rfl | decide) dX3_group_1 ?_
  refine g_putV (S' := tw m S (twf t 0 (nI 0))) X mC_X3 0 (by decide) q3506 (mm_same.rf rfl) rfl (tK0 hT) (fun h => absurd h (by decide)) rfl rfl (.inl ⟨nI 0, rfl, rfl, tw_sI.symm⟩) dX3_group_2 ?_
  refine g_aload_n X 0 rfl rfl dX3_group_5 ?_
  refine g_iload_n X 1 rfl rfl dX3_group_6 ?_
  refine g_callV (st := []) X (sp_X3_isGroup _ _ _ m S (twf t 0 (nI 0)) hT x ng hng (by omega)) q3694 q3696 qs66 q119 q3697 ⟨rfl, (mm_npk 1 rfl (by decide +kernel))⟩ ⟨⟨Nat.le_of_ble_eq_true rfl, Nat.le_of_ble_eq_true rfl⟩, Nat.le_of_ble_eq_true rfl, Nat.le_of_ble_eq_true rfl⟩ mC_X3 (tK0 hT) rfl (Nat.le_of_ble_eq_true rfl) dX3_group_7 (fun _ _ _ h => False.elim h) (fun v_7 S_7 p_7 => ?_)
  obtain ⟨rfl, rfl⟩ := p_7
  refine G.eq (show _ = ([.int (bI (ixb x ng))] : List Value) from rfl) ?_
  refine g_if_eq X dX3_group_10 (tgt := 37) (by decide) (fun h_10 => ?_) (fun h_10 => ?_)
  · replace h_10 := bI_0.mp h_10
    refine g_aload_n X 0 rfl rfl dX3_group_37 ?_
    refine g_iconst X (nI 1) (by first | rfl | decide) dX3_group_38 ?_
    refine g_callV (st := []) X (sp_X3_fails _ _ _ m S (twf t 0 (nI 0)) hT (nI 1)) q3578 q3580 qs47 q119 q3581 ⟨rfl, (mm_npk 1 rfl (by decide +kernel))⟩ ⟨⟨Nat.le_of_ble_eq_true rfl, Nat.le_of_ble_eq_true rfl⟩, Nat.le_of_ble_eq_true rfl, Nat.le_of_ble_eq_true rfl⟩ mC_X3 (tK0 hT) rfl (Nat.le_of_ble_eq_true rfl) dX3_group_39 (fun _ _ _ h => False.elim h) (fun v_39t S_39t p_39t => ?_)
    obtain ⟨rfl, rfl⟩ := p_39t
    refine G.eq (show _ = ([.int (nI 0)] : List Value) from rfl) ?_
    exact g_ireturn X Y hr rfl ⟨Nat.le_of_ble_eq_true rfl, Nat.le_of_ble_eq_true rfl⟩ dX3_group_42 (by unfold oGroup; rw [if_neg h_10]; exact ⟨rfl, rfl⟩)
  · replace h_10 := bI_1.mp h_10
    obtain ⟨p, hp, rfl⟩ := ixb_of h_10
    refine g_aload_n X 0 rfl rfl dX3_group_13 ?_
    refine g_getR (v := some (m + 1)) X mC_X3 5 (by decide) q3511 (mm_same.rf rfl) rfl (tK0 hT) (tR1 hT) dX3_group_14 ?_
    refine g_bipush X (nI 116) (by first | rfl | decide) dX3_group_17 ?_
    refine g_iconst X (nI 2) (by first | rfl | decide) dX3_group_19 ?_
    refine g_iload_n X 1 rfl rfl dX3_group_20 ?_
    refine g_imulN X rfl dX3_group_21 ?_
    refine g_iaddN X rfl dX3_group_22 ?_
    refine g_iload_n X 2 rfl rfl dX3_group_23 ?_
    refine g_if_eq X dX3_group_24 (tgt := 31) (by decide) (fun h_24f => ?_) (fun h_24f => ?_)
    · refine g_iconst X (nI 0) (by first | rfl | decide) dX3_group_31 ?_
      refine g_iaddN X rfl dX3_group_32 ?_
      refine g_iald (v := t.2 1 (116 + 2 * p + 0)) X (mm_ix.of rfl (by omega) (by omega)) (tK1 hT) (tw_A (by decide)) dX3_group_33 ?_
      refine g_goto X dX3_group_34 (tgt := 42) (by decide) ?_
      exact g_ireturn X Y hr rfl ⟨Nat.le_of_ble_eq_true rfl, Nat.le_of_ble_eq_true rfl⟩ dX3_group_42 (by unfold oGroup; rw [if_pos ((ixb_nI (by omega)).mpr hp), if_pos h_24f, cN_nI (by omega)]; exact ⟨rfl, rfl⟩)
    · refine g_iconst X (nI 1) (by first | rfl | decide) dX3_group_27 ?_
      refine g_goto X dX3_group_28 (tgt := 32) (by decide) ?_
      refine g_iaddN X rfl dX3_group_32 ?_
      refine g_iald (v := t.2 1 (116 + 2 * p + 1)) X (mm_ix.of rfl (by omega) (by omega)) (tK1 hT) (tw_A (by decide)) dX3_group_33 ?_
      refine g_goto X dX3_group_34 (tgt := 42) (by decide) ?_
      exact g_ireturn X Y hr rfl ⟨Nat.le_of_ble_eq_true rfl, Nat.le_of_ble_eq_true rfl⟩ dX3_group_42 (by unfold oGroup; rw [if_pos ((ixb_nI (by omega)).mpr hp), if_neg h_24f, cN_nI (by omega)]; exact ⟨rfl, rfl⟩)
set_option maxHeartbeats 4000000 in
set_option maxRecDepth 100000 in
theorem sp_X3_persons (l : Launch) (D : Dg) (B : Nat) (m : Nat) (S : Mm) (t : Tw) (hT : twK B S m) (ng : Nat) (hng : t.2 1 4 = nI ng) (hng4 : ng ≤ 4) : Sp eI l D B yX3_persons (ws_ yX3_persons cX3_persons 3 (some .int)) (rmL 1 0 0) [.ref m] (tw m S t) (fun v S' => v = prs (t.2 1) ng ∧ S' = tw m S t) (fun _ _ _ => False) := by
  refine Sp.of cX3_persons 3 (some .int) [(0, .ref m)] rfl (Nat.le_of_ble_eq_true rfl) rfl fun g X Y hr hnm hgl hgD hgB hex => ?_
  subst hgl hgD hgB
  refine g_iconst X (nI 0) (by first | rfl | decide) dX3_persons_0 ?_
  refine g_istore_n (L' := [(1, .int (nI 0)), (0, .ref m)]) X (by decide) rfl rfl dX3_persons_1 ?_
  refine g_iconst X (nI 0) (by first | rfl | decide) dX3_persons_2 ?_
  refine g_istore_n (L' := [(2, .int (nI 0)), (1, .int (nI 0)), (0, .ref m)]) X (by decide) rfl rfl dX3_persons_3 ?_
  have key_4 : ∀ (k9 i : Nat) , ng < i + k9 → i ≤ ng → G g 0 0 (tw m S t) 4 [(2, .int (nI i)), (1, .int (sI (fun g => t.2 1 (116 + 2 * g)) i)), (0, .ref m)] [] := by
    intro k9
    induction k9 with
    | zero => intro i  a1 a2; omega
    | succ k9 ih_4 =>
      intro i  a1 a2
      refine g_iload_n X 0 rfl rfl dX3_persons_4 ?_
      refine g_aload_n X 2 rfl rfl dX3_persons_5 ?_
      refine g_getR (v := some (m + 1)) X mC_X3 5 (by decide) q3511 (mm_same.rf rfl) rfl (tK0 hT) (tR1 hT) dX3_persons_6 ?_
      refine g_iconst X (nI 4) (by first | rfl | decide) dX3_persons_9 ?_
      refine g_iald (v := nI ng) X (mm_ix.of rfl (by omega) (by omega)) (tK1 hT) ((tw_A (by decide)).trans (show t.2 1 4 = nI ng from hng)) dX3_persons_10 ?_
      refine g_icmp_ge X dX3_persons_11 (tgt := 34) (by decide) (fun h_11L => ?_) (fun h_11L => ?_)
      · replace h_11L := (nI_leI (by omega) (by omega)).mp h_11L
        refine g_iload_n X 1 rfl rfl dX3_persons_34 ?_
        exact g_ireturn X Y hr rfl ⟨Nat.le_of_ble_eq_true rfl, Nat.le_of_ble_eq_true rfl⟩ dX3_persons_35 (by
            have e : i = ng := by omega
            subst e; exact ⟨rfl, rfl⟩)
      · replace h_11L := mt (nI_leI (by omega) (by omega)).mpr h_11L
        refine g_iload_n X 1 rfl rfl dX3_persons_14 ?_
        refine g_aload_n X 2 rfl rfl dX3_persons_15 ?_
        refine g_getR (v := some (m + 1)) X mC_X3 5 (by decide) q3511 (mm_same.rf rfl) rfl (tK0 hT) (tR1 hT) dX3_persons_16 ?_
        refine g_bipush X (nI 116) (by first | rfl | decide) dX3_persons_19 ?_
        refine g_iconst X (nI 2) (by first | rfl | decide) dX3_persons_21 ?_
        refine g_iload_n X 0 rfl rfl dX3_persons_22 ?_
        refine g_imulN X rfl dX3_persons_23 ?_
        refine g_iaddN X rfl dX3_persons_24 ?_
        refine g_iald (v := t.2 1 (116 + 2 * i)) X (mm_ix.of rfl (by omega) (by omega)) (tK1 hT) (tw_A (by decide)) dX3_persons_25 ?_
        refine g_iadd X dX3_persons_26 ?_
        refine g_istore_n (L' := [(1, .int ((sI (fun g => t.2 1 (116 + 2 * g)) i) + (t.2 1 (116 + 2 * i)))), (2, .int (nI i)), (0, .ref m)]) X (by decide) rfl rfl dX3_persons_27 ?_
        refine g_iinc (L' := [(2, .int (nI (i + 1))), (1, .int ((sI (fun g => t.2 1 (116 + 2 * g)) i) + (t.2 1 (116 + 2 * i)))), (0, .ref m)]) X 1 (nI (i + 1)) rfl (nI_1 _) (by decide) rfl dX3_persons_28 ?_
        refine g_goto X dX3_persons_31 (tgt := 4) (by decide) ?_
        refine G.locs (L' := [(2, .int (nI (i + 1))), (1, .int (sI (fun g => t.2 1 (116 + 2 * g)) (i + 1))), (0, .ref m)]) [0, 1, 2] rfl ?_
        exact ih_4 (i + 1) (by omega) (by omega)
  refine G.locs (L' := [(2, .int (nI 0)), (1, .int (sI (fun g => t.2 1 (116 + 2 * g)) 0)), (0, .ref m)]) [0, 1, 2] rfl ?_
  exact key_4 (ng + 1) 0  (by omega) (by omega)
set_option maxHeartbeats 4000000 in
set_option maxRecDepth 100000 in
theorem sp_X3_addLamp (l : Launch) (D : Dg) (B : Nat) (m : Nat) (S : Mm) (t : Tw) (hT : twK B S m) (np : Nat) (hnp : t.2 1 1 = nI np) (hnp6 : np ≤ 6) (nl : Nat) (hnl : t.2 1 3 = nI nl) (hnl4 : nl ≤ 4) (fc ch : Nat) (hfc : t.1 10 = nI fc) (hfc8 : fc < 8) (hch : t.1 9 = nI ch) (hch8 : ch ≤ 8) (x : Int32) : Sp eI l D B yX3_addLamp (ws_ yX3_addLamp cX3_addLamp 2 (some .int)) (rmL 3 0 0) [.ref m, .int x] (tw m S t) (fun v S' => v = (oAddLamp t np nl fc ch x).1 ∧ S' = tw m S ((oAddLamp t np nl fc ch x).2)) (fun _ _ _ => False) := by
  refine Sp.of cX3_addLamp 2 (some .int) [(0, .ref m), (1, .int x)] rfl (Nat.le_of_ble_eq_true rfl) rfl fun g X Y hr hnm hgl hgD hgB hex => ?_
  subst hgl hgD hgB
  refine g_aload_n X 0 rfl rfl dX3_addLamp_0 ?_
  refine g_iconst X (nI 0) (by first | rfl | decide) dX3_addLamp_1 ?_
  refine g_putV (S' := tw m S (twf t 0 (nI 0))) X mC_X3 0 (by decide) q3506 (mm_same.rf rfl) rfl (tK0 hT) (fun h => absurd h (by decide)) rfl rfl (.inl ⟨nI 0, rfl, rfl, tw_sI.symm⟩) dX3_addLamp_2 ?_
  refine g_aload_n X 0 rfl rfl dX3_addLamp_5 ?_
  refine g_iload_n X 1 rfl rfl dX3_addLamp_6 ?_
  refine g_callV (st := []) X (sp_X3_isPool _ _ _ m S (twf t 0 (nI 0)) hT x np hnp (by omega)) q3602 q3604 qs52 q119 q3605 ⟨rfl, (mm_npk 1 rfl (by decide +kernel))⟩ ⟨⟨Nat.le_of_ble_eq_true rfl, Nat.le_of_ble_eq_true rfl⟩, Nat.le_of_ble_eq_true rfl, Nat.le_of_ble_eq_true rfl⟩ mC_X3 (tK0 hT) rfl (Nat.le_of_ble_eq_true rfl) dX3_addLamp_7 (fun _ _ _ h => False.elim h) (fun v_7 S_7 p_7 => ?_)
  obtain ⟨rfl, rfl⟩ := p_7
  refine G.eq (show _ = ([.int (bI (ixb x np))] : List Value) from rfl) ?_
  refine g_if_ne X dX3_addLamp_10 (tgt := 19) (by decide) (fun h_10 => ?_) (fun h_10 => ?_)
  · replace h_10 := bI_1.mp h_10
    obtain ⟨p, hp, rfl⟩ := ixb_of h_10
    refine g_aload_n X 0 rfl rfl dX3_addLamp_19 ?_
    refine g_getR (v := some (m + 1)) X mC_X3 5 (by decide) q3511 (mm_same.rf rfl) rfl (tK0 hT) (tR1 hT) dX3_addLamp_20 ?_
    refine g_iconst X (nI 3) (by first | rfl | decide) dX3_addLamp_23 ?_
    refine g_iald (v := nI nl) X (mm_ix.of rfl (by omega) (by omega)) (tK1 hT) ((tw_A (by decide)).trans (show t.2 1 3 = nI nl from hnl)) dX3_addLamp_24 ?_
    refine g_iconst X (nI 4) (by first | rfl | decide) dX3_addLamp_25 ?_
    refine g_icmp_ne X dX3_addLamp_26 (tgt := 37) (by decide) (fun h_26t => ?_) (fun h_26t => ?_)
    · replace h_26t := mt (nI_eq (by omega) (by omega)).mpr h_26t
      refine g_aload_n X 0 rfl rfl dX3_addLamp_37 ?_
      refine g_callV (st := []) X (sp_X3_remembers _ _ _ m S (twf t 0 (nI 0)) hT fc ch hfc hfc8 hch hch8) q3586 q3588 qs49 q119 q3589 ⟨rfl, (mm_npk 0 rfl (by decide +kernel))⟩ ⟨⟨Nat.le_of_ble_eq_true rfl, Nat.le_of_ble_eq_true rfl⟩, Nat.le_of_ble_eq_true rfl, Nat.le_of_ble_eq_true rfl⟩ mC_X3 (tK0 hT) rfl (Nat.le_of_ble_eq_true rfl) dX3_addLamp_38 (fun _ _ _ h => False.elim h) (fun v_38tt S_38tt p_38tt => ?_)
      obtain rfl := p_38tt
      refine G.eq (show _ = ([] : List Value) from rfl) ?_
      refine g_aload_n X 0 rfl rfl dX3_addLamp_41 ?_
      refine g_getR (v := some (m + 1)) X mC_X3 5 (by decide) q3511 (mm_same.rf rfl) rfl (tK0 hT) (tR1 hT) dX3_addLamp_42 ?_
      refine g_bipush X (nI 124) (by first | rfl | decide) dX3_addLamp_45 ?_
      refine g_iconst X (nI 2) (by first | rfl | decide) dX3_addLamp_47 ?_
      refine g_aload_n X 0 rfl rfl dX3_addLamp_48 ?_
      refine g_getR (v := some (m + 1)) X mC_X3 5 (by decide) q3511 (mm_same.rf rfl) rfl (tK0 hT) (tR1 hT) dX3_addLamp_49 ?_
      refine g_iconst X (nI 3) (by first | rfl | decide) dX3_addLamp_52 ?_
      refine g_iald (v := nI nl) X (mm_ix.of rfl (by omega) (by omega)) (tK1 hT) ((tw_A (by decide)).trans (show t.2 1 3 = nI nl from hnl)) dX3_addLamp_53 ?_
      refine g_imulN X rfl dX3_addLamp_54 ?_
      refine g_iaddN X rfl dX3_addLamp_55 ?_
      refine g_iload_n X 1 rfl rfl dX3_addLamp_56 ?_
      refine g_iast (v := nI p) (S' := tw m S (tws (rem (twf t 0 (nI 0)) fc ch) 1 (upd (t.2 1) (124 + 2 * nl) (nI p)))) X (mm_ix.of rfl (by omega) (by omega)) (tK1 hT) (tB1 hT) rfl (tw_sA (by decide)) dX3_addLamp_57 ?_
      refine g_aload_n X 0 rfl rfl dX3_addLamp_58 ?_
      refine g_getR (v := some (m + 1)) X mC_X3 5 (by decide) q3511 (mm_same.rf rfl) rfl (tK0 hT) (tR1 hT) dX3_addLamp_59 ?_
      refine g_iconst X (nI 3) (by first | rfl | decide) dX3_addLamp_62 ?_
      refine g_dup2 X rfl rfl dX3_addLamp_63 ?_
      refine g_iald (v := nI nl) X (mm_ix.of rfl (by omega) (by omega)) (tK1 hT) ((tw_A (by decide)).trans (show (upd (t.2 1) (124 + 2 * nl) (nI p)) 3 = nI nl from ((pk_un (by omega)).trans hnl))) dX3_addLamp_64 ?_
      refine g_iconst X (nI 1) (by first | rfl | decide) dX3_addLamp_65 ?_
      refine g_iaddN X rfl dX3_addLamp_66 ?_
      refine g_iast (v := nI (nl + 1)) (S' := tw m S (tws (rem (twf t 0 (nI 0)) fc ch) 1 (upd (upd (t.2 1) (124 + 2 * nl) (nI p)) 3 (nI (nl + 1))))) X (mm_ix.of rfl (by omega) (by omega)) (tK1 hT) (tB1 hT) rfl (tw_sA2 (by decide)) dX3_addLamp_67 ?_
      refine g_aload_n X 0 rfl rfl dX3_addLamp_68 ?_
      refine g_getR (v := some (m + 1)) X mC_X3 5 (by decide) q3511 (mm_same.rf rfl) rfl (tK0 hT) (tR1 hT) dX3_addLamp_69 ?_
      refine g_iconst X (nI 3) (by first | rfl | decide) dX3_addLamp_72 ?_
      refine g_iald (v := nI (nl + 1)) X (mm_ix.of rfl (by omega) (by omega)) (tK1 hT) ((tw_A (by decide)).trans (show (upd (upd (t.2 1) (124 + 2 * nl) (nI p)) 3 (nI (nl + 1))) 3 = nI (nl + 1) from pk_us)) dX3_addLamp_73 ?_
      refine g_iconst X (nI 1) (by first | rfl | decide) dX3_addLamp_74 ?_
      refine g_isubN (z := nl) X (by omega) dX3_addLamp_75 ?_
      exact g_ireturn X Y hr rfl ⟨Nat.le_of_ble_eq_true rfl, Nat.le_of_ble_eq_true rfl⟩ dX3_addLamp_76 (by unfold oAddLamp; rw [if_pos ((ixb_nI (by omega)).mpr hp), if_neg h_26t, cN_nI (by omega)]; exact ⟨rfl, rfl⟩)
    · replace h_26t := (nI_eq (by omega) (by omega)).mp h_26t
      refine g_aload_n X 0 rfl rfl dX3_addLamp_29 ?_
      refine g_iconst X (nI 2) (by first | rfl | decide) dX3_addLamp_30 ?_
      refine g_iconst X (nI 1) (by first | rfl | decide) dX3_addLamp_31 ?_
      refine g_iconst X (nI 4) (by first | rfl | decide) dX3_addLamp_32 ?_
      refine g_callV (st := []) X (sp_X3_refuses _ _ _ m S (twf t 0 (nI 0)) hT (nI 2) (nI 1) (nI 4)) q3582 q3584 qs48 q119 q3585 ⟨rfl, (mm_npk 3 rfl (by decide +kernel))⟩ ⟨⟨Nat.le_of_ble_eq_true rfl, Nat.le_of_ble_eq_true rfl⟩, Nat.le_of_ble_eq_true rfl, Nat.le_of_ble_eq_true rfl⟩ mC_X3 (tK0 hT) rfl (Nat.le_of_ble_eq_true rfl) dX3_addLamp_33 (fun _ _ _ h => False.elim h) (fun v_33tf S_33tf p_33tf => ?_)
      obtain ⟨rfl, rfl⟩ := p_33tf
      refine G.eq (show _ = ([.int (nI 0)] : List Value) from rfl) ?_
      exact g_ireturn X Y hr rfl ⟨Nat.le_of_ble_eq_true rfl, Nat.le_of_ble_eq_true rfl⟩ dX3_addLamp_36 (by unfold oAddLamp; rw [if_pos ((ixb_nI (by omega)).mpr hp), if_pos h_26t]; exact ⟨rfl, rfl⟩)
  · replace h_10 := bI_0.mp h_10
    refine g_aload_n X 0 rfl rfl dX3_addLamp_13 ?_
    refine g_iconst X (nI 1) (by first | rfl | decide) dX3_addLamp_14 ?_
    refine g_callV (st := []) X (sp_X3_fails _ _ _ m S (twf t 0 (nI 0)) hT (nI 1)) q3578 q3580 qs47 q119 q3581 ⟨rfl, (mm_npk 1 rfl (by decide +kernel))⟩ ⟨⟨Nat.le_of_ble_eq_true rfl, Nat.le_of_ble_eq_true rfl⟩, Nat.le_of_ble_eq_true rfl, Nat.le_of_ble_eq_true rfl⟩ mC_X3 (tK0 hT) rfl (Nat.le_of_ble_eq_true rfl) dX3_addLamp_15 (fun _ _ _ h => False.elim h) (fun v_15f S_15f p_15f => ?_)
    obtain ⟨rfl, rfl⟩ := p_15f
    refine G.eq (show _ = ([.int (nI 0)] : List Value) from rfl) ?_
    exact g_ireturn X Y hr rfl ⟨Nat.le_of_ble_eq_true rfl, Nat.le_of_ble_eq_true rfl⟩ dX3_addLamp_18 (by unfold oAddLamp; rw [if_neg h_10]; exact ⟨rfl, rfl⟩)
set_option maxHeartbeats 4000000 in
set_option maxRecDepth 100000 in
theorem sp_X3_lampsOn (l : Launch) (D : Dg) (B : Nat) (m : Nat) (S : Mm) (t : Tw) (hT : twK B S m) (nl : Nat) (hnl : t.2 1 3 = nI nl) (hnl4 : nl ≤ 4) : Sp eI l D B yX3_lampsOn (ws_ yX3_lampsOn cX3_lampsOn 3 (some .int)) (rmL 2 0 0) [.ref m] (tw m S t) (fun v S' => v = lOn (t.2 1) nl ∧ S' = tw m S t) (fun _ _ _ => False) := by
  refine Sp.of cX3_lampsOn 3 (some .int) [(0, .ref m)] rfl (Nat.le_of_ble_eq_true rfl) rfl fun g X Y hr hnm hgl hgD hgB hex => ?_
  subst hgl hgD hgB
  refine g_iconst X (nI 0) (by first | rfl | decide) dX3_lampsOn_0 ?_
  refine g_istore_n (L' := [(1, .int (nI 0)), (0, .ref m)]) X (by decide) rfl rfl dX3_lampsOn_1 ?_
  refine g_iconst X (nI 0) (by first | rfl | decide) dX3_lampsOn_2 ?_
  refine g_istore_n (L' := [(2, .int (nI 0)), (1, .int (nI 0)), (0, .ref m)]) X (by decide) rfl rfl dX3_lampsOn_3 ?_
  have key_4 : ∀ (k9 i : Nat) , nl < i + k9 → i ≤ nl → G g 0 0 (tw m S t) 4 [(2, .int (nI i)), (1, .int (sI (fun k => bI (0 < t.2 1 (124 + 2 * k + 1))) i)), (0, .ref m)] [] := by
    intro k9
    induction k9 with
    | zero => intro i  a1 a2; omega
    | succ k9 ih_4 =>
      intro i  a1 a2
      refine g_iload_n X 0 rfl rfl dX3_lampsOn_4 ?_
      refine g_aload_n X 2 rfl rfl dX3_lampsOn_5 ?_
      refine g_getR (v := some (m + 1)) X mC_X3 5 (by decide) q3511 (mm_same.rf rfl) rfl (tK0 hT) (tR1 hT) dX3_lampsOn_6 ?_
      refine g_iconst X (nI 3) (by first | rfl | decide) dX3_lampsOn_9 ?_
      refine g_iald (v := nI nl) X (mm_ix.of rfl (by omega) (by omega)) (tK1 hT) ((tw_A (by decide)).trans (show t.2 1 3 = nI nl from hnl)) dX3_lampsOn_10 ?_
      refine g_icmp_ge X dX3_lampsOn_11 (tgt := 36) (by decide) (fun h_11L => ?_) (fun h_11L => ?_)
      · replace h_11L := (nI_leI (by omega) (by omega)).mp h_11L
        refine g_iload_n X 1 rfl rfl dX3_lampsOn_36 ?_
        exact g_ireturn X Y hr rfl ⟨Nat.le_of_ble_eq_true rfl, Nat.le_of_ble_eq_true rfl⟩ dX3_lampsOn_37 (by
            have e : i = nl := by omega
            subst e; exact ⟨rfl, rfl⟩)
      · replace h_11L := mt (nI_leI (by omega) (by omega)).mpr h_11L
        refine g_iload_n X 1 rfl rfl dX3_lampsOn_14 ?_
        refine g_aload_n X 2 rfl rfl dX3_lampsOn_15 ?_
        refine g_iload_n X 0 rfl rfl dX3_lampsOn_16 ?_
        refine g_callV (st := [.int (sI (fun k => bI (0 < t.2 1 (124 + 2 * k + 1))) i)]) X (sp_X3_minutesOf _ _ _ m S t hT i (by omega)) q3722 q3724 qs70 q119 q3725 ⟨rfl, (mm_npk 1 rfl (by decide +kernel))⟩ ⟨⟨Nat.le_of_ble_eq_true rfl, Nat.le_of_ble_eq_true rfl⟩, Nat.le_of_ble_eq_true rfl, Nat.le_of_ble_eq_true rfl⟩ mC_X3 (tK0 hT) rfl (Nat.le_of_ble_eq_true rfl) dX3_lampsOn_17 (fun _ _ _ h => False.elim h) (fun v_17Lf S_17Lf p_17Lf => ?_)
        obtain ⟨rfl, rfl⟩ := p_17Lf
        refine G.eq (show _ = ([.int (t.2 1 (124 + 2 * i + 1)), .int (sI (fun k => bI (0 < t.2 1 (124 + 2 * k + 1))) i)] : List Value) from rfl) ?_
        refine g_if_le X dX3_lampsOn_20 (tgt := 27) (by decide) (fun h_20Lf => ?_) (fun h_20Lf => ?_)
        · refine g_iconst X (nI 0) (by first | rfl | decide) dX3_lampsOn_27 ?_
          refine g_iadd X dX3_lampsOn_28 ?_
          refine G.eq (show _ = (.int (sI (fun k => bI (0 < t.2 1 (124 + 2 * k + 1))) (i + 1)) :: _ : List Value) from by show _ = (.int (sI _ i + bI _) :: _ : List Value); rw [bI_f (Int32.not_lt.mpr h_20Lf)]) ?_
          refine g_istore_n (L' := [(1, .int (sI (fun k => bI (0 < t.2 1 (124 + 2 * k + 1))) (i + 1))), (2, .int (nI i)), (0, .ref m)]) X (by decide) rfl rfl dX3_lampsOn_29 ?_
          refine g_iinc (L' := [(2, .int (nI (i + 1))), (1, .int (sI (fun k => bI (0 < t.2 1 (124 + 2 * k + 1))) (i + 1))), (0, .ref m)]) X 1 (nI (i + 1)) rfl (nI_1 _) (by decide) rfl dX3_lampsOn_30 ?_
          refine g_goto X dX3_lampsOn_33 (tgt := 4) (by decide) ?_
          exact ih_4 (i + 1) (by omega) (by omega)
        · refine g_iconst X (nI 1) (by first | rfl | decide) dX3_lampsOn_23 ?_
          refine g_goto X dX3_lampsOn_24 (tgt := 28) (by decide) ?_
          refine g_iadd X dX3_lampsOn_28 ?_
          refine G.eq (show _ = (.int (sI (fun k => bI (0 < t.2 1 (124 + 2 * k + 1))) (i + 1)) :: _ : List Value) from by show _ = (.int (sI _ i + bI _) :: _ : List Value); rw [bI_t (Int32.not_le.mp h_20Lf)]) ?_
          refine g_istore_n (L' := [(1, .int (sI (fun k => bI (0 < t.2 1 (124 + 2 * k + 1))) (i + 1))), (2, .int (nI i)), (0, .ref m)]) X (by decide) rfl rfl dX3_lampsOn_29 ?_
          refine g_iinc (L' := [(2, .int (nI (i + 1))), (1, .int (sI (fun k => bI (0 < t.2 1 (124 + 2 * k + 1))) (i + 1))), (0, .ref m)]) X 1 (nI (i + 1)) rfl (nI_1 _) (by decide) rfl dX3_lampsOn_30 ?_
          refine g_goto X dX3_lampsOn_33 (tgt := 4) (by decide) ?_
          exact ih_4 (i + 1) (by omega) (by omega)
  refine G.locs (L' := [(2, .int (nI 0)), (1, .int (sI (fun k => bI (0 < t.2 1 (124 + 2 * k + 1))) 0)), (0, .ref m)]) [0, 1, 2] rfl ?_
  exact key_4 (nl + 1) 0  (by omega) (by omega)
