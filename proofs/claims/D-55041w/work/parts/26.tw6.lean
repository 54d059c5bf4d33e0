theorem nOn_ok {w : Nat → Int32} {nl : Nat} {x y d : Int32} (h : (nOn w nl x y d).1 = 0) : ixb x nl := by
  unfold nOn at h
  by_cases e : ixb x nl
  · exact e
  · rw [if_neg e] at h; exact absurd (show nI 1 = 0 from h) (by decide)
theorem nOff_ok {w : Nat → Int32} {nl : Nat} {x d : Int32} (h : (nOff w nl x d).1 = 0) : ixb x nl := by
  unfold nOff at h
  by_cases e : ixb x nl
  · exact e
  · rw [if_neg e] at h; exact absurd (show nI 1 = 0 from h) (by decide)
def nDr (x d : Int32) : Int32 × Int32 × Int32 := if nI 0 ≤ x ∧ x ≤ nI 9 then (nI 0, nI 0, d) else (nI 1, nI 0, d)
def nSw (w : Nat → Int32) (d : Int32) : Int32 × Int32 × Int32 := if w 7 = 0 then (nI 1, nI 4, nI 0) else (nI 0, nI 0, d)
def nPa (x d : Int32) : Int32 × Int32 × Int32 := if nI 1 ≤ x ∧ x ≤ nI 120 then (nI 0, nI 0, d) else (nI 1, nI 0, d)
def oSetDraught (t : Tw) (fc ch : Nat) (x : Int32) : Int32 × Tw :=
  if (nDr x (t.1 4)).1 = 0 then (t.2 1 8, tws (rem (nT (t0 t) (nDr x (t.1 4))) fc ch) 1 (upd (t.2 1) 8 x)) else (nI 0, twf (nT (t0 t) (nDr x (t.1 4))) 0 (nI 1))
def oSweep (t : Tw) (fc ch : Nat) : Int32 × Tw :=
  if (nSw (t.2 1) (t.1 4)).1 = 0 then (t.2 1 7, tws (rem (nT (t0 t) (nSw (t.2 1) (t.1 4))) fc ch) 1 (upd (t.2 1) 7 (nI 0))) else (nI 0, fN (nT (t0 t) (nSw (t.2 1) (t.1 4))) (nSw (t.2 1) (t.1 4)).1)
/-- a place, or none -/
def oI : Option Nat → Int32
  | none => -1
  | some b => nI b
/-- by how much the smallest pearl of the pool p with q pearls changes by a drip -/
def chg (w : Nat → Int32) (p q : Nat) : Int32 :=
  match sm (szs w p) q with
  | none => nI 0
  | some k => if w 6 < nI 50 then (if szs w p k < nI 99 then nI 1 else nI 0) else (if nI 1 < szs w p k then -1 else nI 0)
set_option maxHeartbeats 4000000 in
set_option maxRecDepth 100000 in
theorem sp_X3_notOn (l : Launch) (D : Dg) (B : Nat) (m : Nat) (S : Mm) (t : Tw) (hT : twK B S m) (nl : Nat) (hnl : t.2 1 3 = nI nl) (hnl4 : nl ≤ 4) (x y : Int32) : Sp eI l D B yX3_notOn (ws_ yX3_notOn cX3_notOn 3 (some .int)) (rmL 3 0 0) [.ref m, .int x, .int y] (tw m S t) (fun v S' => v = (nOn (t.2 1) nl x y (t.1 4)).1 ∧ S' = tw m S (nT t (nOn (t.2 1) nl x y (t.1 4)))) (fun _ _ _ => False) := by
  refine Sp.of cX3_notOn 3 (some .int) [(0, .ref m), (1, .int x), (2, .int y)] rfl (Nat.le_of_ble_eq_true rfl) rfl fun g X Y hr hnm hgl hgD hgB hex => ?_
  subst hgl hgD hgB
  refine g_aload_n X 0 rfl rfl dX3_notOn_0 ?_
  refine g_iconst X (nI 0) (by first | rfl | decide) dX3_notOn_1 ?_
  refine g_putV (S' := tw m S (twf t 3 (nI 0))) X mC_X3 3 (by decide) q3509 (mm_same.rf rfl) rfl (tK0 hT) (fun h => absurd h (by decide)) rfl rfl (.inl ⟨nI 0, rfl, rfl, tw_sI.symm⟩) dX3_notOn_2 ?_
  refine g_aload_n X 0 rfl rfl dX3_notOn_5 ?_
  refine g_iload_n X 1 rfl rfl dX3_notOn_6 ?_
  refine g_callV (st := []) X (sp_X3_isLamp _ _ _ m S (twf t 3 (nI 0)) hT x nl hnl (by omega)) q3718 q3720 qs69 q119 q3721 ⟨rfl, (mm_npk 1 rfl (by decide +kernel))⟩ ⟨⟨Nat.le_of_ble_eq_true rfl, Nat.le_of_ble_eq_true rfl⟩, Nat.le_of_ble_eq_true rfl, Nat.le_of_ble_eq_true rfl⟩ mC_X3 (tK0 hT) rfl (Nat.le_of_ble_eq_true rfl) dX3_notOn_7 (fun _ _ _ h => False.elim h) (fun v_7 S_7 p_7 => ?_)
  obtain ⟨rfl, rfl⟩ := p_7
  refine G.eq (show _ = ([.int (bI (ixb x nl))] : List Value) from rfl) ?_
  refine g_if_ne X dX3_notOn_10 (tgt := 15) (by decide) (fun h_10 => ?_) (fun h_10 => ?_)
  · replace h_10 := bI_1.mp h_10
    obtain ⟨p, hp, rfl⟩ := ixb_of h_10
    refine g_iload_n X 2 rfl rfl dX3_notOn_15 ?_
    refine g_iconst X (nI 1) (by first | rfl | decide) dX3_notOn_16 ?_
    refine g_bipush X (nI 60) (by first | rfl | decide) dX3_notOn_17 ?_
    refine g_callS (st := []) X (sp_X3_isBetween _ _ _ (tw m S (twf t 3 (nI 0))) y (nI 1) (nI 60)) q3575 q3576 q119 q3577 (mm_npk 3 rfl (by decide +kernel)) ⟨⟨Nat.le_of_ble_eq_true rfl, Nat.le_of_ble_eq_true rfl⟩, Nat.le_of_ble_eq_true rfl, Nat.le_of_ble_eq_true rfl⟩ rfl (Nat.le_of_ble_eq_true rfl) dX3_notOn_19 (fun _ _ _ h => False.elim h) (fun v_19t S_19t p_19t => ?_)
    obtain ⟨rfl, rfl⟩ := p_19t
    refine G.eq (show _ = ([.int (bI ((nI 1) ≤ y ∧ y ≤ (nI 60)))] : List Value) from rfl) ?_
    refine g_if_ne X dX3_notOn_22 (tgt := 27) (by decide) (fun h_22t => ?_) (fun h_22t => ?_)
    · replace h_22t := bI_1.mp h_22t
      refine g_aload_n X 0 rfl rfl dX3_notOn_27 ?_
      refine g_iload_n X 1 rfl rfl dX3_notOn_28 ?_
      refine g_callV (st := []) X (sp_X3_minutesOf _ _ _ m S (twf t 3 (nI 0)) hT p (by omega)) q3722 q3724 qs70 q119 q3725 ⟨rfl, (mm_npk 1 rfl (by decide +kernel))⟩ ⟨⟨Nat.le_of_ble_eq_true rfl, Nat.le_of_ble_eq_true rfl⟩, Nat.le_of_ble_eq_true rfl, Nat.le_of_ble_eq_true rfl⟩ mC_X3 (tK0 hT) rfl (Nat.le_of_ble_eq_true rfl) dX3_notOn_29 (fun _ _ _ h => False.elim h) (fun v_29tt S_29tt p_29tt => ?_)
      obtain ⟨rfl, rfl⟩ := p_29tt
      refine G.eq (show _ = ([.int (t.2 1 (124 + 2 * p + 1))] : List Value) from rfl) ?_
      refine g_if_le X dX3_notOn_32 (tgt := 49) (by decide) (fun h_32tt => ?_) (fun h_32tt => ?_)
      · refine g_iconst X (nI 0) (by first | rfl | decide) dX3_notOn_49 ?_
        exact g_ireturn X Y hr rfl ⟨Nat.le_of_ble_eq_true rfl, Nat.le_of_ble_eq_true rfl⟩ dX3_notOn_50 (by unfold nOn; rw [if_pos ((ixb_nI (by omega)).mpr hp), if_pos h_22t, cN_nI (n := p) (by omega), if_neg (Int32.not_lt.mpr h_32tt)]; exact ⟨rfl, congrArg (tw m S) (nT_0)⟩)
      · refine g_aload_n X 0 rfl rfl dX3_notOn_35 ?_
        refine g_iconst X (nI 3) (by first | rfl | decide) dX3_notOn_36 ?_
        refine g_iconst X (nI 2) (by first | rfl | decide) dX3_notOn_37 ?_
        refine g_aload_n X 0 rfl rfl dX3_notOn_38 ?_
        refine g_iload_n X 1 rfl rfl dX3_notOn_39 ?_
        refine g_callV (st := [.int (nI 2), .int (nI 3), .ref m]) X (sp_X3_minutesOf _ _ _ m S (twf t 3 (nI 0)) hT p (by omega)) q3722 q3724 qs70 q119 q3725 ⟨rfl, (mm_npk 1 rfl (by decide +kernel))⟩ ⟨⟨Nat.le_of_ble_eq_true rfl, Nat.le_of_ble_eq_true rfl⟩, Nat.le_of_ble_eq_true rfl, Nat.le_of_ble_eq_true rfl⟩ mC_X3 (tK0 hT) rfl (Nat.le_of_ble_eq_true rfl) dX3_notOn_40 (fun _ _ _ h => False.elim h) (fun v_40ttf S_40ttf p_40ttf => ?_)
        obtain ⟨rfl, rfl⟩ := p_40ttf
        refine G.eq (show _ = ([.int (t.2 1 (124 + 2 * p + 1)), .int (nI 2), .int (nI 3), .ref m] : List Value) from rfl) ?_
        refine g_callV (st := []) X (sp_X3_isNot _ _ _ m S (twf t 3 (nI 0)) hT (nI 3) (nI 2) (t.2 1 (124 + 2 * p + 1))) q3678 q3680 qs63 q119 q3681 ⟨rfl, (mm_npk 3 rfl (by decide +kernel))⟩ ⟨⟨Nat.le_of_ble_eq_true rfl, Nat.le_of_ble_eq_true rfl⟩, Nat.le_of_ble_eq_true rfl, Nat.le_of_ble_eq_true rfl⟩ mC_X3 (tK0 hT) rfl (Nat.le_of_ble_eq_true rfl) dX3_notOn_43 (fun _ _ _ h => False.elim h) (fun v_43ttf S_43ttf p_43ttf => ?_)
        obtain ⟨rfl, rfl⟩ := p_43ttf
        refine G.eq (show _ = ([.int (nI 3)] : List Value) from rfl) ?_
        refine g_goto X dX3_notOn_46 (tgt := 50) (by decide) ?_
        exact g_ireturn X Y hr rfl ⟨Nat.le_of_ble_eq_true rfl, Nat.le_of_ble_eq_true rfl⟩ dX3_notOn_50 (by unfold nOn; rw [if_pos ((ixb_nI (by omega)).mpr hp), if_pos h_22t, cN_nI (n := p) (by omega), if_pos (Int32.not_le.mp h_32tt)]; exact ⟨rfl, congrArg (tw m S) (nT_3)⟩)
    · replace h_22t := bI_0.mp h_22t
      refine g_iconst X (nI 2) (by first | rfl | decide) dX3_notOn_25 ?_
      exact g_ireturn X Y hr rfl ⟨Nat.le_of_ble_eq_true rfl, Nat.le_of_ble_eq_true rfl⟩ dX3_notOn_26 (by unfold nOn; rw [if_pos ((ixb_nI (by omega)).mpr hp), if_neg h_22t]; exact ⟨rfl, congrArg (tw m S) (nT_0)⟩)
  · replace h_10 := bI_0.mp h_10
    refine g_iconst X (nI 1) (by first | rfl | decide) dX3_notOn_13 ?_
    exact g_ireturn X Y hr rfl ⟨Nat.le_of_ble_eq_true rfl, Nat.le_of_ble_eq_true rfl⟩ dX3_notOn_14 (by unfold nOn; rw [if_neg h_10]; exact ⟨rfl, congrArg (tw m S) (nT_0)⟩)
set_option maxHeartbeats 4000000 in
set_option maxRecDepth 100000 in
theorem sp_X3_lights (l : Launch) (D : Dg) (B : Nat) (m : Nat) (S : Mm) (t : Tw) (hT : twK B S m) (nl : Nat) (hnl : t.2 1 3 = nI nl) (hnl4 : nl ≤ 4) (p : Nat) (hp : p < nl) (y : Int32) : Sp eI l D B yX3_lights (ws_ yX3_lights cX3_lights 3 (some .int)) (rmL 3 0 0) [.ref m, .int (nI p), .int y] (tw m S t) (fun v S' => v = lOn (rLights (t.2 1) p y) nl ∧ S' = tw m S (tws t 1 (rLights (t.2 1) p y))) (fun _ _ _ => False) := by
  refine Sp.of cX3_lights 3 (some .int) [(0, .ref m), (1, .int (nI p)), (2, .int y)] rfl (Nat.le_of_ble_eq_true rfl) rfl fun g X Y hr hnm hgl hgD hgB hex => ?_
  subst hgl hgD hgB
  refine g_aload_n X 0 rfl rfl dX3_lights_0 ?_
  refine g_getR (v := some (m + 1)) X mC_X3 5 (by decide) q3511 (mm_same.rf rfl) rfl (tK0 hT) (tR1 hT) dX3_lights_1 ?_
  refine g_bipush X (nI 124) (by first | rfl | decide) dX3_lights_4 ?_
  refine g_iconst X (nI 2) (by first | rfl | decide) dX3_lights_6 ?_
  refine g_iload_n X 1 rfl rfl dX3_lights_7 ?_
  refine g_imulN X rfl dX3_lights_8 ?_
  refine g_iaddN X rfl dX3_lights_9 ?_
  refine g_iconst X (nI 1) (by first | rfl | decide) dX3_lights_10 ?_
  refine g_iaddN X rfl dX3_lights_11 ?_
  refine g_iload_n X 2 rfl rfl dX3_lights_12 ?_
  refine g_iast (v := y) (S' := tw m S (tws t 1 (upd (t.2 1) (124 + 2 * p + 1) y))) X (mm_ix.of rfl (by omega) (by omega)) (tK1 hT) (tB1 hT) rfl (tw_sA (by decide)) dX3_lights_13 ?_
  refine g_aload_n X 0 rfl rfl dX3_lights_14 ?_
  refine g_callV (st := []) X (sp_X3_lampsOn _ _ _ m S (tws t 1 (upd (t.2 1) (124 + 2 * p + 1) y)) hT nl (show upd _ _ _ 3 = _ by rw [pk_un (by omega)]; exact hnl) hnl4) q3730 q3732 qs72 q119 q3733 ⟨rfl, (mm_npk 0 rfl (by decide +kernel))⟩ ⟨⟨Nat.le_of_ble_eq_true rfl, Nat.le_of_ble_eq_true rfl⟩, Nat.le_of_ble_eq_true rfl, Nat.le_of_ble_eq_true rfl⟩ mC_X3 (tK0 hT) rfl (Nat.le_of_ble_eq_true rfl) dX3_lights_15 (fun _ _ _ h => False.elim h) (fun v_15 S_15 p_15 => ?_)
  obtain ⟨rfl, rfl⟩ := p_15
  refine G.eq (show _ = ([.int (lOn (rLights (t.2 1) p y) nl)] : List Value) from rfl) ?_
  exact g_ireturn X Y hr rfl ⟨Nat.le_of_ble_eq_true rfl, Nat.le_of_ble_eq_true rfl⟩ dX3_lights_18 (⟨rfl, rfl⟩)
set_option maxHeartbeats 4000000 in
set_option maxRecDepth 100000 in
theorem sp_X3_switchOn (l : Launch) (D : Dg) (B : Nat) (m : Nat) (S : Mm) (t : Tw) (hT : twK B S m) (nl : Nat) (hnl : t.2 1 3 = nI nl) (hnl4 : nl ≤ 4) (fc ch : Nat) (hfc : t.1 10 = nI fc) (hfc8 : fc < 8) (hch : t.1 9 = nI ch) (hch8 : ch ≤ 8) (x y : Int32) : Sp eI l D B yX3_switchOn (ws_ yX3_switchOn cX3_switchOn 4 (some .int)) (rmL 4 0 0) [.ref m, .int x, .int y] (tw m S t) (fun v S' => v = (oSwitchOn t nl fc ch x y).1 ∧ S' = tw m S ((oSwitchOn t nl fc ch x y).2)) (fun _ _ _ => False) := by
  refine Sp.of cX3_switchOn 4 (some .int) [(0, .ref m), (1, .int x), (2, .int y)] rfl (Nat.le_of_ble_eq_true rfl) rfl fun g X Y hr hnm hgl hgD hgB hex => ?_
  subst hgl hgD hgB
  refine g_aload_n X 0 rfl rfl dX3_switchOn_0 ?_
  refine g_iconst X (nI 0) (by first | rfl | decide) dX3_switchOn_1 ?_
  refine g_putV (S' := tw m S (twf t 0 (nI 0))) X mC_X3 0 (by decide) q3506 (mm_same.rf rfl) rfl (tK0 hT) (fun h => absurd h (by decide)) rfl rfl (.inl ⟨nI 0, rfl, rfl, tw_sI.symm⟩) dX3_switchOn_2 ?_
  refine g_aload_n X 0 rfl rfl dX3_switchOn_5 ?_
  refine g_iload_n X 1 rfl rfl dX3_switchOn_6 ?_
  refine g_iload_n X 2 rfl rfl dX3_switchOn_7 ?_
  refine g_callV (st := []) X (sp_X3_notOn _ _ _ m S (twf t 0 (nI 0)) hT nl hnl hnl4 x y) q3714 q3716 qs68 q119 q3717 ⟨rfl, (mm_npk 2 rfl (by decide +kernel))⟩ ⟨⟨Nat.le_of_ble_eq_true rfl, Nat.le_of_ble_eq_true rfl⟩, Nat.le_of_ble_eq_true rfl, Nat.le_of_ble_eq_true rfl⟩ mC_X3 (tK0 hT) rfl (Nat.le_of_ble_eq_true rfl) dX3_switchOn_8 (fun _ _ _ h => False.elim h) (fun v_8 S_8 p_8 => ?_)
  obtain ⟨rfl, rfl⟩ := p_8
  refine G.eq (show _ = ([.int ((nOn (t.2 1) nl x y (t.1 4)).1)] : List Value) from rfl) ?_
  refine g_istore_n (L' := [(3, .int ((nOn (t.2 1) nl x y (t.1 4)).1)), (0, .ref m), (1, .int x), (2, .int y)]) X (by decide) rfl rfl dX3_switchOn_11 ?_
  refine g_iload_n X 0 rfl rfl dX3_switchOn_12 ?_
  refine g_if_eq X dX3_switchOn_13 (tgt := 22) (by decide) (fun h_13 => ?_) (fun h_13 => ?_)
  · refine g_aload_n X 1 rfl rfl dX3_switchOn_22 ?_
    refine g_callV (st := []) X (sp_X3_remembers _ _ _ m S (nT (twf t 0 (nI 0)) (nOn (t.2 1) nl x y (t.1 4))) hT fc ch hfc hfc8 hch hch8) q3586 q3588 qs49 q119 q3589 ⟨rfl, (mm_npk 0 rfl (by decide +kernel))⟩ ⟨⟨Nat.le_of_ble_eq_true rfl, Nat.le_of_ble_eq_true rfl⟩, Nat.le_of_ble_eq_true rfl, Nat.le_of_ble_eq_true rfl⟩ mC_X3 (tK0 hT) rfl (Nat.le_of_ble_eq_true rfl) dX3_switchOn_23 (fun _ _ _ h => False.elim h) (fun v_23t S_23t p_23t => ?_)
    obtain rfl := p_23t
    refine G.eq (show _ = ([] : List Value) from rfl) ?_
    obtain ⟨p, hp, rfl⟩ := ixb_of (nOn_ok h_13)
    refine g_aload_n X 1 rfl rfl dX3_switchOn_26 ?_
    refine g_iload_n X 2 rfl rfl dX3_switchOn_27 ?_
    refine g_iload_n X 3 rfl rfl dX3_switchOn_28 ?_
    refine g_callV (st := []) X (sp_X3_lights _ _ _ m S (rem (nT (twf t 0 (nI 0)) (nOn (t.2 1) nl (nI p) y (t.1 4))) fc ch) hT nl hnl hnl4 p hp y) q3726 q3728 qs71 q119 q3729 ⟨rfl, (mm_npk 2 rfl (by decide +kernel))⟩ ⟨⟨Nat.le_of_ble_eq_true rfl, Nat.le_of_ble_eq_true rfl⟩, Nat.le_of_ble_eq_true rfl, Nat.le_of_ble_eq_true rfl⟩ mC_X3 (tK0 hT) rfl (Nat.le_of_ble_eq_true rfl) dX3_switchOn_29 (fun _ _ _ h => False.elim h) (fun v_29t S_29t p_29t => ?_)
    obtain ⟨rfl, rfl⟩ := p_29t
    refine G.eq (show _ = ([.int (lOn (rLights (t.2 1) p y) nl)] : List Value) from rfl) ?_
    exact g_ireturn X Y hr rfl ⟨Nat.le_of_ble_eq_true rfl, Nat.le_of_ble_eq_true rfl⟩ dX3_switchOn_32 (by unfold oSwitchOn; rw [if_pos h_13, cN_nI (n := p) (by omega)]; exact ⟨rfl, rfl⟩)
  · refine g_aload_n X 1 rfl rfl dX3_switchOn_16 ?_
    refine g_iload_n X 0 rfl rfl dX3_switchOn_17 ?_
    refine g_callV (st := []) X (sp_X3_failsNow _ _ _ m S (nT (twf t 0 (nI 0)) (nOn (t.2 1) nl x y (t.1 4))) hT ((nOn (t.2 1) nl x y (t.1 4)).1)) q3682 q3684 qs64 q119 q3685 ⟨rfl, (mm_npk 1 rfl (by decide +kernel))⟩ ⟨⟨Nat.le_of_ble_eq_true rfl, Nat.le_of_ble_eq_true rfl⟩, Nat.le_of_ble_eq_true rfl, Nat.le_of_ble_eq_true rfl⟩ mC_X3 (tK0 hT) rfl (Nat.le_of_ble_eq_true rfl) dX3_switchOn_18 (fun _ _ _ h => False.elim h) (fun v_18f S_18f p_18f => ?_)
    obtain ⟨rfl, rfl⟩ := p_18f
    refine G.eq (show _ = ([.int (nI 0)] : List Value) from rfl) ?_
    exact g_ireturn X Y hr rfl ⟨Nat.le_of_ble_eq_true rfl, Nat.le_of_ble_eq_true rfl⟩ dX3_switchOn_21 (by unfold oSwitchOn; rw [if_neg h_13]; exact ⟨rfl, rfl⟩)
set_option maxHeartbeats 4000000 in
set_option maxRecDepth 100000 in
theorem sp_X3_notOff (l : Launch) (D : Dg) (B : Nat) (m : Nat) (S : Mm) (t : Tw) (hT : twK B S m) (nl : Nat) (hnl : t.2 1 3 = nI nl) (hnl4 : nl ≤ 4) (x : Int32) : Sp eI l D B yX3_notOff (ws_ yX3_notOff cX3_notOff 2 (some .int)) (rmL 3 0 0) [.ref m, .int x] (tw m S t) (fun v S' => v = (nOff (t.2 1) nl x (t.1 4)).1 ∧ S' = tw m S (nT t (nOff (t.2 1) nl x (t.1 4)))) (fun _ _ _ => False) := by
  refine Sp.of cX3_notOff 2 (some .int) [(0, .ref m), (1, .int x)] rfl (Nat.le_of_ble_eq_true rfl) rfl fun g X Y hr hnm hgl hgD hgB hex => ?_
  subst hgl hgD hgB
  refine g_aload_n X 0 rfl rfl dX3_notOff_0 ?_
  refine g_iconst X (nI 0) (by first | rfl | decide) dX3_notOff_1 ?_
  refine g_putV (S' := tw m S (twf t 3 (nI 0))) X mC_X3 3 (by decide) q3509 (mm_same.rf rfl) rfl (tK0 hT) (fun h => absurd h (by decide)) rfl rfl (.inl ⟨nI 0, rfl, rfl, tw_sI.symm⟩) dX3_notOff_2 ?_
  refine g_aload_n X 0 rfl rfl dX3_notOff_5 ?_
  refine g_iload_n X 1 rfl rfl dX3_notOff_6 ?_
  refine g_callV (st := []) X (sp_X3_isLamp _ _ _ m S (twf t 3 (nI 0)) hT x nl hnl (by omega)) q3718 q3720 qs69 q119 q3721 ⟨rfl, (mm_npk 1 rfl (by decide +kernel))⟩ ⟨⟨Nat.le_of_ble_eq_true rfl, Nat.le_of_ble_eq_true rfl⟩, Nat.le_of_ble_eq_true rfl, Nat.le_of_ble_eq_true rfl⟩ mC_X3 (tK0 hT) rfl (Nat.le_of_ble_eq_true rfl) dX3_notOff_7 (fun _ _ _ h => False.elim h) (fun v_7 S_7 p_7 => ?_)
  obtain ⟨rfl, rfl⟩ := p_7
  refine G.eq (show _ = ([.int (bI (ixb x nl))] : List Value) from rfl) ?_
  refine g_if_ne X dX3_notOff_10 (tgt := 15) (by decide) (fun h_10 => ?_) (fun h_10 => ?_)
  · replace h_10 := bI_1.mp h_10
    obtain ⟨p, hp, rfl⟩ := ixb_of h_10
    refine g_aload_n X 0 rfl rfl dX3_notOff_15 ?_
    refine g_iload_n X 1 rfl rfl dX3_notOff_16 ?_
    refine g_callV (st := []) X (sp_X3_minutesOf _ _ _ m S (twf t 3 (nI 0)) hT p (by omega)) q3722 q3724 qs70 q119 q3725 ⟨rfl, (mm_npk 1 rfl (by decide +kernel))⟩ ⟨⟨Nat.le_of_ble_eq_true rfl, Nat.le_of_ble_eq_true rfl⟩, Nat.le_of_ble_eq_true rfl, Nat.le_of_ble_eq_true rfl⟩ mC_X3 (tK0 hT) rfl (Nat.le_of_ble_eq_true rfl) dX3_notOff_17 (fun _ _ _ h => False.elim h) (fun v_17t S_17t p_17t => ?_)
    obtain ⟨rfl, rfl⟩ := p_17t
    refine G.eq (show _ = ([.int (t.2 1 (124 + 2 * p + 1))] : List Value) from rfl) ?_
    refine g_if_ne X dX3_notOff_20 (tgt := 33) (by decide) (fun h_20t => ?_) (fun h_20t => ?_)
    · refine g_iconst X (nI 0) (by first | rfl | decide) dX3_notOff_33 ?_
      exact g_ireturn X Y hr rfl ⟨Nat.le_of_ble_eq_true rfl, Nat.le_of_ble_eq_true rfl⟩ dX3_notOff_34 (by unfold nOff; rw [if_pos ((ixb_nI (by omega)).mpr hp), cN_nI (n := p) (by omega), if_neg h_20t]; exact ⟨rfl, congrArg (tw m S) (nT_0)⟩)
    · refine g_aload_n X 0 rfl rfl dX3_notOff_23 ?_
      refine g_iconst X (nI 2) (by first | rfl | decide) dX3_notOff_24 ?_
      refine g_iconst X (nI 3) (by first | rfl | decide) dX3_notOff_25 ?_
      refine g_iload_n X 1 rfl rfl dX3_notOff_26 ?_
      refine g_callV (st := []) X (sp_X3_isNot _ _ _ m S (twf t 3 (nI 0)) hT (nI 2) (nI 3) (nI p)) q3678 q3680 qs63 q119 q3681 ⟨rfl, (mm_npk 3 rfl (by decide +kernel))⟩ ⟨⟨Nat.le_of_ble_eq_true rfl, Nat.le_of_ble_eq_true rfl⟩, Nat.le_of_ble_eq_true rfl, Nat.le_of_ble_eq_true rfl⟩ mC_X3 (tK0 hT) rfl (Nat.le_of_ble_eq_true rfl) dX3_notOff_27 (fun _ _ _ h => False.elim h) (fun v_27tf S_27tf p_27tf => ?_)
      obtain ⟨rfl, rfl⟩ := p_27tf
      refine G.eq (show _ = ([.int (nI 2)] : List Value) from rfl) ?_
      refine g_goto X dX3_notOff_30 (tgt := 34) (by decide) ?_
      exact g_ireturn X Y hr rfl ⟨Nat.le_of_ble_eq_true rfl, Nat.le_of_ble_eq_true rfl⟩ dX3_notOff_34 (by unfold nOff; rw [if_pos ((ixb_nI (by omega)).mpr hp), cN_nI (n := p) (by omega), if_pos h_20t]; exact ⟨rfl, congrArg (tw m S) (nT_3)⟩)
  · replace h_10 := bI_0.mp h_10
    refine g_iconst X (nI 1) (by first | rfl | decide) dX3_notOff_13 ?_
    exact g_ireturn X Y hr rfl ⟨Nat.le_of_ble_eq_true rfl, Nat.le_of_ble_eq_true rfl⟩ dX3_notOff_14 (by unfold nOff; rw [if_neg h_10]; exact ⟨rfl, congrArg (tw m S) (nT_0)⟩)
set_option maxHeartbeats 4000000 in
set_option maxRecDepth 100000 in
theorem sp_X3_darkens (l : Launch) (D : Dg) (B : Nat) (m : Nat) (S : Mm) (t : Tw) (hT : twK B S m) (p : Nat) (hp : p < 4) : Sp eI l D B yX3_darkens (ws_ yX3_darkens cX3_darkens 3 (some .int)) (rmL 2 0 0) [.ref m, .int (nI p)] (tw m S t) (fun v S' => v = t.2 1 (124 + 2 * p + 1) ∧ S' = tw m S (tws t 1 (rDark (t.2 1) p))) (fun _ _ _ => False) := by
  refine Sp.of cX3_darkens 3 (some .int) [(0, .ref m), (1, .int (nI p))] rfl (Nat.le_of_ble_eq_true rfl) rfl fun g X Y hr hnm hgl hgD hgB hex => ?_
  subst hgl hgD hgB
  refine g_aload_n X 0 rfl rfl dX3_darkens_0 ?_
  refine g_iload_n X 1 rfl rfl dX3_darkens_1 ?_
  refine g_callV (st := []) X (sp_X3_minutesOf _ _ _ m S t hT p (by omega)) q3722 q3724 qs70 q119 q3725 ⟨rfl, (mm_npk 1 rfl (by decide +kernel))⟩ ⟨⟨Nat.le_of_ble_eq_true rfl, Nat.le_of_ble_eq_true rfl⟩, Nat.le_of_ble_eq_true rfl, Nat.le_of_ble_eq_true rfl⟩ mC_X3 (tK0 hT) rfl (Nat.le_of_ble_eq_true rfl) dX3_darkens_2 (fun _ _ _ h => False.elim h) (fun v_2 S_2 p_2 => ?_)
  obtain ⟨rfl, rfl⟩ := p_2
  refine G.eq (show _ = ([.int (t.2 1 (124 + 2 * p + 1))] : List Value) from rfl) ?_
  refine g_istore_n (L' := [(2, .int (t.2 1 (124 + 2 * p + 1))), (0, .ref m), (1, .int (nI p))]) X (by decide) rfl rfl dX3_darkens_5 ?_
  refine g_aload_n X 1 rfl rfl dX3_darkens_6 ?_
  refine g_getR (v := some (m + 1)) X mC_X3 5 (by decide) q3511 (mm_same.rf rfl) rfl (tK0 hT) (tR1 hT) dX3_darkens_7 ?_
  refine g_bipush X (nI 124) (by first | rfl | decide) dX3_darkens_10 ?_
  refine g_iconst X (nI 2) (by first | rfl | decide) dX3_darkens_12 ?_
  refine g_iload_n X 2 rfl rfl dX3_darkens_13 ?_
  refine g_imulN X rfl dX3_darkens_14 ?_
  refine g_iaddN X rfl dX3_darkens_15 ?_
  refine g_iconst X (nI 1) (by first | rfl | decide) dX3_darkens_16 ?_
  refine g_iaddN X rfl dX3_darkens_17 ?_
  refine g_iconst X (nI 0) (by first | rfl | decide) dX3_darkens_18 ?_
  refine g_iast (v := nI 0) (S' := tw m S (tws t 1 (upd (t.2 1) (124 + 2 * p + 1) (nI 0)))) X (mm_ix.of rfl (by omega) (by omega)) (tK1 hT) (tB1 hT) rfl (tw_sA (by decide)) dX3_darkens_19 ?_
  refine g_iload_n X 0 rfl rfl dX3_darkens_20 ?_
  exact g_ireturn X Y hr rfl ⟨Nat.le_of_ble_eq_true rfl, Nat.le_of_ble_eq_true rfl⟩ dX3_darkens_21 (⟨rfl, rfl⟩)
set_option maxHeartbeats 4000000 in
set_option maxRecDepth 100000 in
theorem sp_X3_switchOff (l : Launch) (D : Dg) (B : Nat) (m : Nat) (S : Mm) (t : Tw) (hT : twK B S m) (nl : Nat) (hnl : t.2 1 3 = nI nl) (hnl4 : nl ≤ 4) (fc ch : Nat) (hfc : t.1 10 = nI fc) (hfc8 : fc < 8) (hch : t.1 9 = nI ch) (hch8 : ch ≤ 8) (x : Int32) : Sp eI l D B yX3_switchOff (ws_ yX3_switchOff cX3_switchOff 3 (some .int)) (rmL 4 0 0) [.ref m, .int x] (tw m S t) (fun v S' => v = (oSwitchOff t nl fc ch x).1 ∧ S' = tw m S ((oSwitchOff t nl fc ch x).2)) (fun _ _ _ => False) := by
  refine Sp.of cX3_switchOff 3 (some .int) [(0, .ref m), (1, .int x)] rfl (Nat.le_of_ble_eq_true rfl) rfl fun g X Y hr hnm hgl hgD hgB hex => ?_
  subst hgl hgD hgB
  refine g_aload_n X 0 rfl rfl dX3_switchOff_0 ?_
  refine g_iconst X (nI 0) (by first | rfl | decide) dX3_switchOff_1 ?_
  refine g_putV (S' := tw m S (twf t 0 (nI 0))) X mC_X3 0 (by decide) q3506 (mm_same.rf rfl) rfl (tK0 hT) (fun h => absurd h (by decide)) rfl rfl (.inl ⟨nI 0, rfl, rfl, tw_sI.symm⟩) dX3_switchOff_2 ?_
  refine g_aload_n X 0 rfl rfl dX3_switchOff_5 ?_
  refine g_iload_n X 1 rfl rfl dX3_switchOff_6 ?_
  refine g_callV (st := []) X (sp_X3_notOff _ _ _ m S (twf t 0 (nI 0)) hT nl hnl hnl4 x) q3738 q3740 qs73 q119 q3741 ⟨rfl, (mm_npk 1 rfl (by decide +kernel))⟩ ⟨⟨Nat.le_of_ble_eq_true rfl, Nat.le_of_ble_eq_true rfl⟩, Nat.le_of_ble_eq_true rfl, Nat.le_of_ble_eq_true rfl⟩ mC_X3 (tK0 hT) rfl (Nat.le_of_ble_eq_true rfl) dX3_switchOff_7 (fun _ _ _ h => False.elim h) (fun v_7 S_7 p_7 => ?_)
  obtain ⟨rfl, rfl⟩ := p_7
  refine G.eq (show _ = ([.int ((nOff (t.2 1) nl x (t.1 4)).1)] : List Value) from rfl) ?_
  refine g_istore_n (L' := [(2, .int ((nOff (t.2 1) nl x (t.1 4)).1)), (0, .ref m), (1, .int x)]) X (by decide) rfl rfl dX3_switchOff_10 ?_
  refine g_iload_n X 0 rfl rfl dX3_switchOff_11 ?_
  refine g_if_eq X dX3_switchOff_12 (tgt := 21) (by decide) (fun h_12 => ?_) (fun h_12 => ?_)
  · refine g_aload_n X 1 rfl rfl dX3_switchOff_21 ?_
    refine g_callV (st := []) X (sp_X3_remembers _ _ _ m S (nT (twf t 0 (nI 0)) (nOff (t.2 1) nl x (t.1 4))) hT fc ch hfc hfc8 hch hch8) q3586 q3588 qs49 q119 q3589 ⟨rfl, (mm_npk 0 rfl (by decide +kernel))⟩ ⟨⟨Nat.le_of_ble_eq_true rfl, Nat.le_of_ble_eq_true rfl⟩, Nat.le_of_ble_eq_true rfl, Nat.le_of_ble_eq_true rfl⟩ mC_X3 (tK0 hT) rfl (Nat.le_of_ble_eq_true rfl) dX3_switchOff_22 (fun _ _ _ h => False.elim h) (fun v_22t S_22t p_22t => ?_)
    obtain rfl := p_22t
    refine G.eq (show _ = ([] : List Value) from rfl) ?_
    obtain ⟨p, hp, rfl⟩ := ixb_of (nOff_ok h_12)
    refine g_aload_n X 1 rfl rfl dX3_switchOff_25 ?_
    refine g_iload_n X 2 rfl rfl dX3_switchOff_26 ?_
    refine g_callV (st := []) X (sp_X3_darkens _ _ _ m S (rem (nT (twf t 0 (nI 0)) (nOff (t.2 1) nl (nI p) (t.1 4))) fc ch) hT p (by omega)) q3742 q3744 qs74 q119 q3745 ⟨rfl, (mm_npk 1 rfl (by decide +kernel))⟩ ⟨⟨Nat.le_of_ble_eq_true rfl, Nat.le_of_ble_eq_true rfl⟩, Nat.le_of_ble_eq_true rfl, Nat.le_of_ble_eq_true rfl⟩ mC_X3 (tK0 hT) rfl (Nat.le_of_ble_eq_true rfl) dX3_switchOff_27 (fun _ _ _ h => False.elim h) (fun v_27t S_27t p_27t => ?_)
    obtain ⟨rfl, rfl⟩ := p_27t
    refine G.eq (show _ = ([.int (t.2 1 (124 + 2 * p + 1))] : List Value) from rfl) ?_
    exact g_ireturn X Y hr rfl ⟨Nat.le_of_ble_eq_true rfl, Nat.le_of_ble_eq_true rfl⟩ dX3_switchOff_30 (by unfold oSwitchOff; rw [if_pos h_12, cN_nI (n := p) (by omega)]; exact ⟨rfl, rfl⟩)
  · refine g_aload_n X 1 rfl rfl dX3_switchOff_15 ?_
    refine g_iload_n X 0 rfl rfl dX3_switchOff_16 ?_
    refine g_callV (st := []) X (sp_X3_failsNow _ _ _ m S (nT (twf t 0 (nI 0)) (nOff (t.2 1) nl x (t.1 4))) hT ((nOff (t.2 1) nl x (t.1 4)).1)) q3682 q3684 qs64 q119 q3685 ⟨rfl, (mm_npk 1 rfl (by decide +kernel))⟩ ⟨⟨Nat.le_of_ble_eq_true rfl, Nat.le_of_ble_eq_true rfl⟩, Nat.le_of_ble_eq_true rfl, Nat.le_of_ble_eq_true rfl⟩ mC_X3 (tK0 hT) rfl (Nat.le_of_ble_eq_true rfl) dX3_switchOff_17 (fun _ _ _ h => False.elim h) (fun v_17f S_17f p_17f => ?_)
    obtain ⟨rfl, rfl⟩ := p_17f
    refine G.eq (show _ = ([.int (nI 0)] : List Value) from rfl) ?_
    exact g_ireturn X Y hr rfl ⟨Nat.le_of_ble_eq_true rfl, Nat.le_of_ble_eq_true rfl⟩ dX3_switchOff_20 (by unfold oSwitchOff; rw [if_neg h_12]; exact ⟨rfl, rfl⟩)
set_option maxHeartbeats 4000000 in
set_option maxRecDepth 100000 in
theorem sp_X3_lamp (l : Launch) (D : Dg) (B : Nat) (m : Nat) (S : Mm) (t : Tw) (hT : twK B S m) (nl : Nat) (hnl : t.2 1 3 = nI nl) (hnl4 : nl ≤ 4) (x b : Int32) : Sp eI l D B yX3_lamp (ws_ yX3_lamp cX3_lamp 3 (some .int)) (rmL 3 0 0) [.ref m, .int x, .int b] (tw m S t) (fun v S' => v = (oLamp t nl x b).1 ∧ S' = tw m S ((oLamp t nl x b).2)) (fun _ _ _ => False) := by
  refine Sp.of cX3_lamp 3 (some .int) [(0, .ref m), (1, .int x), (2, .int b)] rfl (Nat.le_of_ble_eq_true rfl) rfl fun g X Y hr hnm hgl hgD hgB hex => ?_
  subst hgl hgD hgB
  refine g_aload_n X 0 rfl rfl dX3_lamp_0 ?_
  refine g_iconst X (nI 0) (by first | rfl | decide) dX3_lamp_1 ?_
  refine g_putV (S' := tw m S (twf t 0 (nI 0))) X mC_X3 0 (by decide) q3506 (mm_same.rf rfl) rfl (tK0 hT) (fun h => absurd h (by decide)) rfl rfl (.inl ⟨nI 0, rfl, rfl, tw_sI.symm⟩) dX3_lamp_2 ?_
  refine g_aload_n X 0 rfl rfl dX3_lamp_5 ?_
  refine g_iload_n X 1 rfl rfl dX3_lamp_6 ?_
  refine g_callV (st := []) X (sp_X3_isLamp _ _ _ m S (twf t 0 (nI 0)) hT x nl hnl (by omega)) q3718 q3720 qs69 q119 q3721 ⟨rfl, (mm_npk 1 rfl (by decide +kernel))⟩ ⟨⟨Nat.le_of_ble_eq_true rfl, Nat.le_of_ble_eq_true rfl⟩, Nat.le_of_ble_eq_true rfl, Nat.le_of_ble_eq_true rfl⟩ mC_X3 (tK0 hT) rfl (Nat.le_of_ble_eq_true rfl) dX3_lamp_7 (fun _ _ _ h => False.elim h) (fun v_7 S_7 p_7 => ?_)
  obtain ⟨rfl, rfl⟩ := p_7
  refine G.eq (show _ = ([.int (bI (ixb x nl))] : List Value) from rfl) ?_
  refine g_if_eq X dX3_lamp_10 (tgt := 37) (by decide) (fun h_10 => ?_) (fun h_10 => ?_)
  · replace h_10 := bI_0.mp h_10
    refine g_aload_n X 0 rfl rfl dX3_lamp_37 ?_
    refine g_iconst X (nI 1) (by first | rfl | decide) dX3_lamp_38 ?_
    refine g_callV (st := []) X (sp_X3_fails _ _ _ m S (twf t 0 (nI 0)) hT (nI 1)) q3578 q3580 qs47 q119 q3581 ⟨rfl, (mm_npk 1 rfl (by decide +kernel))⟩ ⟨⟨Nat.le_of_ble_eq_true rfl, Nat.le_of_ble_eq_true rfl⟩, Nat.le_of_ble_eq_true rfl, Nat.le_of_ble_eq_true rfl⟩ mC_X3 (tK0 hT) rfl (Nat.le_of_ble_eq_true rfl) dX3_lamp_39 (fun _ _ _ h => False.elim h) (fun v_39t S_39t p_39t => ?_)
    obtain ⟨rfl, rfl⟩ := p_39t
    refine G.eq (show _ = ([.int (nI 0)] : List Value) from rfl) ?_
    exact g_ireturn X Y hr rfl ⟨Nat.le_of_ble_eq_true rfl, Nat.le_of_ble_eq_true rfl⟩ dX3_lamp_42 (by unfold oLamp; rw [if_neg h_10]; exact ⟨rfl, rfl⟩)
  · replace h_10 := bI_1.mp h_10
    obtain ⟨p, hp, rfl⟩ := ixb_of h_10
    refine g_aload_n X 0 rfl rfl dX3_lamp_13 ?_
    refine g_getR (v := some (m + 1)) X mC_X3 5 (by decide) q3511 (mm_same.rf rfl) rfl (tK0 hT) (tR1 hT) dX3_lamp_14 ?_
    refine g_bipush X (nI 124) (by first | rfl | decide) dX3_lamp_17 ?_
    refine g_iconst X (nI 2) (by first | rfl | decide) dX3_lamp_19 ?_
    refine g_iload_n X 1 rfl rfl dX3_lamp_20 ?_
    refine g_imulN X rfl dX3_lamp_21 ?_
    refine g_iaddN X rfl dX3_lamp_22 ?_
    refine g_iload_n X 2 rfl rfl dX3_lamp_23 ?_
    refine g_if_eq X dX3_lamp_24 (tgt := 31) (by decide) (fun h_24f => ?_) (fun h_24f => ?_)
    · refine g_iconst X (nI 0) (by first | rfl | decide) dX3_lamp_31 ?_
      refine g_iaddN X rfl dX3_lamp_32 ?_
      refine g_iald (v := t.2 1 (124 + 2 * p + 0)) X (mm_ix.of rfl (by omega) (by omega)) (tK1 hT) (tw_A (by decide)) dX3_lamp_33 ?_
      refine g_goto X dX3_lamp_34 (tgt := 42) (by decide) ?_
      exact g_ireturn X Y hr rfl ⟨Nat.le_of_ble_eq_true rfl, Nat.le_of_ble_eq_true rfl⟩ dX3_lamp_42 (by unfold oLamp; rw [if_pos ((ixb_nI (by omega)).mpr hp), if_pos h_24f, cN_nI (by omega)]; exact ⟨rfl, rfl⟩)
    · refine g_iconst X (nI 1) (by first | rfl | decide) dX3_lamp_27 ?_
      refine g_goto X dX3_lamp_28 (tgt := 32) (by decide) ?_
      refine g_iaddN X rfl dX3_lamp_32 ?_
      refine g_iald (v := t.2 1 (124 + 2 * p + 1)) X (mm_ix.of rfl (by omega) (by omega)) (tK1 hT) (tw_A (by decide)) dX3_lamp_33 ?_
      refine g_goto X dX3_lamp_34 (tgt := 42) (by decide) ?_
      exact g_ireturn X Y hr rfl ⟨Nat.le_of_ble_eq_true rfl, Nat.le_of_ble_eq_true rfl⟩ dX3_lamp_42 (by unfold oLamp; rw [if_pos ((ixb_nI (by omega)).mpr hp), if_neg h_24f, cN_nI (by omega)]; exact ⟨rfl, rfl⟩)
set_option maxHeartbeats 4000000 in
set_option maxRecDepth 100000 in
theorem sp_X3_notDraught (l : Launch) (D : Dg) (B : Nat) (m : Nat) (S : Mm) (t : Tw) (hT : twK B S m) (x : Int32) : Sp eI l D B yX3_notDraught (ws_ yX3_notDraught cX3_notDraught 2 (some .int)) (rmL 2 0 0) [.ref m, .int x] (tw m S t) (fun v S' => v = (nDr x (t.1 4)).1 ∧ S' = tw m S (nT t (nDr x (t.1 4)))) (fun _ _ _ => False) := by
  refine Sp.of cX3_notDraught 2 (some .int) [(0, .ref m), (1, .int x)] rfl (Nat.le_of_ble_eq_true rfl) rfl fun g X Y hr hnm hgl hgD hgB hex => ?_
  subst hgl hgD hgB
  refine g_aload_n X 0 rfl rfl dX3_notDraught_0 ?_
  refine g_iconst X (nI 0) (by first | rfl | decide) dX3_notDraught_1 ?_
  refine g_putV (S' := tw m S (twf t 3 (nI 0))) X mC_X3 3 (by decide) q3509 (mm_same.rf rfl) rfl (tK0 hT) (fun h => absurd h (by decide)) rfl rfl (.inl ⟨nI 0, rfl, rfl, tw_sI.symm⟩) dX3_notDraught_2 ?_
  refine g_iload_n X 1 rfl rfl dX3_notDraught_5 ?_
  refine g_iconst X (nI 0) (by first | rfl | decide) dX3_notDraught_6 ?_
  refine g_bipush X (nI 9) (by first | rfl | decide) dX3_notDraught_7 ?_
  refine g_callS (st := []) X (sp_X3_isBetween _ _ _ (tw m S (twf t 3 (nI 0))) x (nI 0) (nI 9)) q3575 q3576 q119 q3577 (mm_npk 3 rfl (by decide +kernel)) ⟨⟨Nat.le_of_ble_eq_true rfl, Nat.le_of_ble_eq_true rfl⟩, Nat.le_of_ble_eq_true rfl, Nat.le_of_ble_eq_true rfl⟩ rfl (Nat.le_of_ble_eq_true rfl) dX3_notDraught_9 (fun _ _ _ h => False.elim h) (fun v_9 S_9 p_9 => ?_)
  obtain ⟨rfl, rfl⟩ := p_9
  refine G.eq (show _ = ([.int (bI ((nI 0) ≤ x ∧ x ≤ (nI 9)))] : List Value) from rfl) ?_
  refine g_if_eq X dX3_notDraught_12 (tgt := 19) (by decide) (fun h_12 => ?_) (fun h_12 => ?_)
  · replace h_12 := bI_0.mp h_12
    refine g_iconst X (nI 1) (by first | rfl | decide) dX3_notDraught_19 ?_
    exact g_ireturn X Y hr rfl ⟨Nat.le_of_ble_eq_true rfl, Nat.le_of_ble_eq_true rfl⟩ dX3_notDraught_20 (by unfold nDr; rw [if_neg h_12]; exact ⟨rfl, congrArg (tw m S) (nT_0)⟩)
  · replace h_12 := bI_1.mp h_12
    refine g_iconst X (nI 0) (by first | rfl | decide) dX3_notDraught_15 ?_
    refine g_goto X dX3_notDraught_16 (tgt := 20) (by decide) ?_
    exact g_ireturn X Y hr rfl ⟨Nat.le_of_ble_eq_true rfl, Nat.le_of_ble_eq_true rfl⟩ dX3_notDraught_20 (by unfold nDr; rw [if_pos h_12]; exact ⟨rfl, congrArg (tw m S) (nT_0)⟩)
set_option maxHeartbeats 4000000 in
set_option maxRecDepth 100000 in
theorem sp_X3_notPass (l : Launch) (D : Dg) (B : Nat) (m : Nat) (S : Mm) (t : Tw) (hT : twK B S m) (x : Int32) : Sp eI l D B yX3_notPass (ws_ yX3_notPass cX3_notPass 2 (some .int)) (rmL 2 0 0) [.ref m, .int x] (tw m S t) (fun v S' => v = (nPa x (t.1 4)).1 ∧ S' = tw m S (nT t (nPa x (t.1 4)))) (fun _ _ _ => False) := by
  refine Sp.of cX3_notPass 2 (some .int) [(0, .ref m), (1, .int x)] rfl (Nat.le_of_ble_eq_true rfl) rfl fun g X Y hr hnm hgl hgD hgB hex => ?_
  subst hgl hgD hgB
  refine g_aload_n X 0 rfl rfl dX3_notPass_0 ?_
  refine g_iconst X (nI 0) (by first | rfl | decide) dX3_notPass_1 ?_
  refine g_putV (S' := tw m S (twf t 3 (nI 0))) X mC_X3 3 (by decide) q3509 (mm_same.rf rfl) rfl (tK0 hT) (fun h => absurd h (by decide)) rfl rfl (.inl ⟨nI 0, rfl, rfl, tw_sI.symm⟩) dX3_notPass_2 ?_
  refine g_iload_n X 1 rfl rfl dX3_notPass_5 ?_
  refine g_iconst X (nI 1) (by first | rfl | decide) dX3_notPass_6 ?_
  refine g_bipush X (nI 120) (by first | rfl | decide) dX3_notPass_7 ?_
  refine g_callS (st := []) X (sp_X3_isBetween _ _ _ (tw m S (twf t 3 (nI 0))) x (nI 1) (nI 120)) q3575 q3576 q119 q3577 (mm_npk 3 rfl (by decide +kernel)) ⟨⟨Nat.le_of_ble_eq_true rfl, Nat.le_of_ble_eq_true rfl⟩, Nat.le_of_ble_eq_true rfl, Nat.le_of_ble_eq_true rfl⟩ rfl (Nat.le_of_ble_eq_true rfl) dX3_notPass_9 (fun _ _ _ h => False.elim h) (fun v_9 S_9 p_9 => ?_)
  obtain ⟨rfl, rfl⟩ := p_9
  refine G.eq (show _ = ([.int (bI ((nI 1) ≤ x ∧ x ≤ (nI 120)))] : List Value) from rfl) ?_
  refine g_if_eq X dX3_notPass_12 (tgt := 19) (by decide) (fun h_12 => ?_) (fun h_12 => ?_)
  · replace h_12 := bI_0.mp h_12
    refine g_iconst X (nI 1) (by first | rfl | decide) dX3_notPass_19 ?_
    exact g_ireturn X Y hr rfl ⟨Nat.le_of_ble_eq_true rfl, Nat.le_of_ble_eq_true rfl⟩ dX3_notPass_20 (by unfold nPa; rw [if_neg h_12]; exact ⟨rfl, congrArg (tw m S) (nT_0)⟩)
  · replace h_12 := bI_1.mp h_12
    refine g_iconst X (nI 0) (by first | rfl | decide) dX3_notPass_15 ?_
    refine g_goto X dX3_notPass_16 (tgt := 20) (by decide) ?_
    exact g_ireturn X Y hr rfl ⟨Nat.le_of_ble_eq_true rfl, Nat.le_of_ble_eq_true rfl⟩ dX3_notPass_20 (by unfold nPa; rw [if_pos h_12]; exact ⟨rfl, congrArg (tw m S) (nT_0)⟩)
set_option maxHeartbeats 4000000 in
set_option maxRecDepth 100000 in
theorem sp_X3_draws (l : Launch) (D : Dg) (B : Nat) (m : Nat) (S : Mm) (t : Tw) (hT : twK B S m) (x : Int32) : Sp eI l D B yX3_draws (ws_ yX3_draws cX3_draws 3 (some .int)) (rmL 1 0 0) [.ref m, .int x] (tw m S t) (fun v S' => v = t.2 1 8 ∧ S' = tw m S (tws t 1 (upd (t.2 1) 8 x))) (fun _ _ _ => False) := by
  refine Sp.of cX3_draws 3 (some .int) [(0, .ref m), (1, .int x)] rfl (Nat.le_of_ble_eq_true rfl) rfl fun g X Y hr hnm hgl hgD hgB hex => ?_
  subst hgl hgD hgB
  refine g_aload_n X 0 rfl rfl dX3_draws_0 ?_
  refine g_getR (v := some (m + 1)) X mC_X3 5 (by decide) q3511 (mm_same.rf rfl) rfl (tK0 hT) (tR1 hT) dX3_draws_1 ?_
  refine g_bipush X (nI 8) (by first | rfl | decide) dX3_draws_4 ?_
  refine g_iald (v := t.2 1 8) X (mm_ix.of rfl (by omega) (by omega)) (tK1 hT) (tw_A (by decide)) dX3_draws_6 ?_
  refine g_istore_n (L' := [(2, .int (t.2 1 8)), (0, .ref m), (1, .int x)]) X (by decide) rfl rfl dX3_draws_7 ?_
  refine g_aload_n X 1 rfl rfl dX3_draws_8 ?_
  refine g_getR (v := some (m + 1)) X mC_X3 5 (by decide) q3511 (mm_same.rf rfl) rfl (tK0 hT) (tR1 hT) dX3_draws_9 ?_
  refine g_bipush X (nI 8) (by first | rfl | decide) dX3_draws_12 ?_
  refine g_iload_n X 2 rfl rfl dX3_draws_14 ?_
  refine g_iast (v := x) (S' := tw m S (tws t 1 (upd (t.2 1) 8 x))) X (mm_ix.of rfl (by omega) (by omega)) (tK1 hT) (tB1 hT) rfl (tw_sA (by decide)) dX3_draws_15 ?_
  refine g_iload_n X 0 rfl rfl dX3_draws_16 ?_
  exact g_ireturn X Y hr rfl ⟨Nat.le_of_ble_eq_true rfl, Nat.le_of_ble_eq_true rfl⟩ dX3_draws_17 (⟨rfl, rfl⟩)
set_option maxHeartbeats 4000000 in
set_option maxRecDepth 100000 in
theorem sp_X3_notSweep (l : Launch) (D : Dg) (B : Nat) (m : Nat) (S : Mm) (t : Tw) (hT : twK B S m)  : Sp eI l D B yX3_notSweep (ws_ yX3_notSweep cX3_notSweep 1 (some .int)) (rmL 2 0 0) [.ref m] (tw m S t) (fun v S' => v = (nSw (t.2 1) (t.1 4)).1 ∧ S' = tw m S (nT t (nSw (t.2 1) (t.1 4)))) (fun _ _ _ => False) := by
  refine Sp.of cX3_notSweep 1 (some .int) [(0, .ref m)] rfl (Nat.le_of_ble_eq_true rfl) rfl fun g X Y hr hnm hgl hgD hgB hex => ?_
  subst hgl hgD hgB
  refine g_aload_n X 0 rfl rfl dX3_notSweep_0 ?_
  refine g_iconst X (nI 0) (by first | rfl | decide) dX3_notSweep_1 ?_
  refine g_putV (S' := tw m S (twf t 3 (nI 0))) X mC_X3 3 (by decide) q3509 (mm_same.rf rfl) rfl (tK0 hT) (fun h => absurd h (by decide)) rfl rfl (.inl ⟨nI 0, rfl, rfl, tw_sI.symm⟩) dX3_notSweep_2 ?_
  refine g_aload_n X 0 rfl rfl dX3_notSweep_5 ?_
  refine g_getR (v := some (m + 1)) X mC_X3 5 (by decide) q3511 (mm_same.rf rfl) rfl (tK0 hT) (tR1 hT) dX3_notSweep_6 ?_
  refine g_bipush X (nI 7) (by first | rfl | decide) dX3_notSweep_9 ?_
  refine g_iald (v := t.2 1 7) X (mm_ix.of rfl (by omega) (by omega)) (tK1 hT) (tw_A (by decide)) dX3_notSweep_11 ?_
  refine g_if_ne X dX3_notSweep_12 (tgt := 25) (by decide) (fun h_12 => ?_) (fun h_12 => ?_)
  · refine g_iconst X (nI 0) (by first | rfl | decide) dX3_notSweep_25 ?_
    exact g_ireturn X Y hr rfl ⟨Nat.le_of_ble_eq_true rfl, Nat.le_of_ble_eq_true rfl⟩ dX3_notSweep_26 (by unfold nSw; rw [if_neg h_12]; exact ⟨rfl, congrArg (tw m S) (nT_0)⟩)
  · refine g_aload_n X 0 rfl rfl dX3_notSweep_15 ?_
    refine g_iconst X (nI 1) (by first | rfl | decide) dX3_notSweep_16 ?_
    refine g_iconst X (nI 4) (by first | rfl | decide) dX3_notSweep_17 ?_
    refine g_iconst X (nI 0) (by first | rfl | decide) dX3_notSweep_18 ?_
    refine g_callV (st := []) X (sp_X3_isNot _ _ _ m S (twf t 3 (nI 0)) hT (nI 1) (nI 4) (nI 0)) q3678 q3680 qs63 q119 q3681 ⟨rfl, (mm_npk 3 rfl (by decide +kernel))⟩ ⟨⟨Nat.le_of_ble_eq_true rfl, Nat.le_of_ble_eq_true rfl⟩, Nat.le_of_ble_eq_true rfl, Nat.le_of_ble_eq_true rfl⟩ mC_X3 (tK0 hT) rfl (Nat.le_of_ble_eq_true rfl) dX3_notSweep_19 (fun _ _ _ h => False.elim h) (fun v_19f S_19f p_19f => ?_)
    obtain ⟨rfl, rfl⟩ := p_19f
    refine G.eq (show _ = ([.int (nI 1)] : List Value) from rfl) ?_
    refine g_goto X dX3_notSweep_22 (tgt := 26) (by decide) ?_
    exact g_ireturn X Y hr rfl ⟨Nat.le_of_ble_eq_true rfl, Nat.le_of_ble_eq_true rfl⟩ dX3_notSweep_26 (by unfold nSw; rw [if_pos h_12]; exact ⟨rfl, congrArg (tw m S) (nT_3)⟩)
set_option maxHeartbeats 4000000 in
set_option maxRecDepth 100000 in
theorem sp_X3_sweeps (l : Launch) (D : Dg) (B : Nat) (m : Nat) (S : Mm) (t : Tw) (hT : twK B S m)  : Sp eI l D B yX3_sweeps (ws_ yX3_sweeps cX3_sweeps 2 (some .int)) (rmL 1 0 0) [.ref m] (tw m S t) (fun v S' => v = t.2 1 7 ∧ S' = tw m S (tws t 1 (upd (t.2 1) 7 (nI 0)))) (fun _ _ _ => False) := by
  refine Sp.of cX3_sweeps 2 (some .int) [(0, .ref m)] rfl (Nat.le_of_ble_eq_true rfl) rfl fun g X Y hr hnm hgl hgD hgB hex => ?_
  subst hgl hgD hgB
  refine g_aload_n X 0 rfl rfl dX3_sweeps_0 ?_
  refine g_getR (v := some (m + 1)) X mC_X3 5 (by decide) q3511 (mm_same.rf rfl) rfl (tK0 hT) (tR1 hT) dX3_sweeps_1 ?_
  refine g_bipush X (nI 7) (by first | rfl | decide) dX3_sweeps_4 ?_
  refine g_iald (v := t.2 1 7) X (mm_ix.of rfl (by omega) (by omega)) (tK1 hT) (tw_A (by decide)) dX3_sweeps_6 ?_
  refine g_istore_n (L' := [(1, .int (t.2 1 7)), (0, .ref m)]) X (by decide) rfl rfl dX3_sweeps_7 ?_
  refine g_aload_n X 1 rfl rfl dX3_sweeps_8 ?_
  refine g_getR (v := some (m + 1)) X mC_X3 5 (by decide) q3511 (mm_same.rf rfl) rfl (tK0 hT) (tR1 hT) dX3_sweeps_9 ?_
  refine g_bipush X (nI 7) (by first | rfl | decide) dX3_sweeps_12 ?_
  refine g_iconst X (nI 0) (by first | rfl | decide) dX3_sweeps_14 ?_
  refine g_iast (v := nI 0) (S' := tw m S (tws t 1 (upd (t.2 1) 7 (nI 0)))) X (mm_ix.of rfl (by omega) (by omega)) (tK1 hT) (tB1 hT) rfl (tw_sA (by decide)) dX3_sweeps_15 ?_
  refine g_iload_n X 0 rfl rfl dX3_sweeps_16 ?_
  exact g_ireturn X Y hr rfl ⟨Nat.le_of_ble_eq_true rfl, Nat.le_of_ble_eq_true rfl⟩ dX3_sweeps_17 (⟨rfl, rfl⟩)
set_option maxHeartbeats 4000000 in
set_option maxRecDepth 100000 in
theorem sp_X3_setDraught (l : Launch) (D : Dg) (B : Nat) (m : Nat) (S : Mm) (t : Tw) (hT : twK B S m) (fc ch : Nat) (hfc : t.1 10 = nI fc) (hfc8 : fc < 8) (hch : t.1 9 = nI ch) (hch8 : ch ≤ 8) (x : Int32) : Sp eI l D B yX3_setDraught (ws_ yX3_setDraught cX3_setDraught 2 (some .int)) (rmL 3 0 0) [.ref m, .int x] (tw m S t) (fun v S' => v = (oSetDraught t fc ch x).1 ∧ S' = tw m S ((oSetDraught t fc ch x).2)) (fun _ _ _ => False) := by
  refine Sp.of cX3_setDraught 2 (some .int) [(0, .ref m), (1, .int x)] rfl (Nat.le_of_ble_eq_true rfl) rfl fun g X Y hr hnm hgl hgD hgB hex => ?_
  subst hgl hgD hgB
  refine g_aload_n X 0 rfl rfl dX3_setDraught_0 ?_
  refine g_iconst X (nI 0) (by first | rfl | decide) dX3_setDraught_1 ?_
  refine g_putV (S' := tw m S (twf t 0 (nI 0))) X mC_X3 0 (by decide) q3506 (mm_same.rf rfl) rfl (tK0 hT) (fun h => absurd h (by decide)) rfl rfl (.inl ⟨nI 0, rfl, rfl, tw_sI.symm⟩) dX3_setDraught_2 ?_
  refine g_aload_n X 0 rfl rfl dX3_setDraught_5 ?_
  refine g_iload_n X 1 rfl rfl dX3_setDraught_6 ?_
  refine g_callV (st := []) X (sp_X3_notDraught _ _ _ m S (twf t 0 (nI 0)) hT x) q3754 q3756 qs75 q119 q3757 ⟨rfl, (mm_npk 1 rfl (by decide +kernel))⟩ ⟨⟨Nat.le_of_ble_eq_true rfl, Nat.le_of_ble_eq_true rfl⟩, Nat.le_of_ble_eq_true rfl, Nat.le_of_ble_eq_true rfl⟩ mC_X3 (tK0 hT) rfl (Nat.le_of_ble_eq_true rfl) dX3_setDraught_7 (fun _ _ _ h => False.elim h) (fun v_7 S_7 p_7 => ?_)
  obtain ⟨rfl, rfl⟩ := p_7
  refine G.eq (show _ = ([.int ((nDr x (t.1 4)).1)] : List Value) from rfl) ?_
  refine g_if_eq X dX3_setDraught_10 (tgt := 19) (by decide) (fun h_10 => ?_) (fun h_10 => ?_)
  · refine g_aload_n X 0 rfl rfl dX3_setDraught_19 ?_
    refine g_callV (st := []) X (sp_X3_remembers _ _ _ m S (nT (twf t 0 (nI 0)) (nDr x (t.1 4))) hT fc ch hfc hfc8 hch hch8) q3586 q3588 qs49 q119 q3589 ⟨rfl, (mm_npk 0 rfl (by decide +kernel))⟩ ⟨⟨Nat.le_of_ble_eq_true rfl, Nat.le_of_ble_eq_true rfl⟩, Nat.le_of_ble_eq_true rfl, Nat.le_of_ble_eq_true rfl⟩ mC_X3 (tK0 hT) rfl (Nat.le_of_ble_eq_true rfl) dX3_setDraught_20 (fun _ _ _ h => False.elim h) (fun v_20t S_20t p_20t => ?_)
    obtain rfl := p_20t
    refine G.eq (show _ = ([] : List Value) from rfl) ?_
    refine g_aload_n X 0 rfl rfl dX3_setDraught_23 ?_
    refine g_iload_n X 1 rfl rfl dX3_setDraught_24 ?_
    refine g_callV (st := []) X (sp_X3_draws _ _ _ m S (rem (nT (twf t 0 (nI 0)) (nDr x (t.1 4))) fc ch) hT x) q3758 q3760 qs76 q119 q3761 ⟨rfl, (mm_npk 1 rfl (by decide +kernel))⟩ ⟨⟨Nat.le_of_ble_eq_true rfl, Nat.le_of_ble_eq_true rfl⟩, Nat.le_of_ble_eq_true rfl, Nat.le_of_ble_eq_true rfl⟩ mC_X3 (tK0 hT) rfl (Nat.le_of_ble_eq_true rfl) dX3_setDraught_25 (fun _ _ _ h => False.elim h) (fun v_25t S_25t p_25t => ?_)
    obtain ⟨rfl, rfl⟩ := p_25t
    refine G.eq (show _ = ([.int (t.2 1 8)] : List Value) from rfl) ?_
    exact g_ireturn X Y hr rfl ⟨Nat.le_of_ble_eq_true rfl, Nat.le_of_ble_eq_true rfl⟩ dX3_setDraught_28 (by unfold oSetDraught; rw [if_pos h_10]; exact ⟨rfl, rfl⟩)
  · refine g_aload_n X 0 rfl rfl dX3_setDraught_13 ?_
    refine g_iconst X (nI 1) (by first | rfl | decide) dX3_setDraught_14 ?_
    refine g_callV (st := []) X (sp_X3_fails _ _ _ m S (nT (twf t 0 (nI 0)) (nDr x (t.1 4))) hT (nI 1)) q3578 q3580 qs47 q119 q3581 ⟨rfl, (mm_npk 1 rfl (by decide +kernel))⟩ ⟨⟨Nat.le_of_ble_eq_true rfl, Nat.le_of_ble_eq_true rfl⟩, Nat.le_of_ble_eq_true rfl, Nat.le_of_ble_eq_true rfl⟩ mC_X3 (tK0 hT) rfl (Nat.le_of_ble_eq_true rfl) dX3_setDraught_15 (fun _ _ _ h => False.elim h) (fun v_15f S_15f p_15f => ?_)
    obtain ⟨rfl, rfl⟩ := p_15f
    refine G.eq (show _ = ([.int (nI 0)] : List Value) from rfl) ?_
    exact g_ireturn X Y hr rfl ⟨Nat.le_of_ble_eq_true rfl, Nat.le_of_ble_eq_true rfl⟩ dX3_setDraught_18 (by unfold oSetDraught; rw [if_neg h_10]; exact ⟨rfl, rfl⟩)
set_option maxHeartbeats 4000000 in
set_option maxRecDepth 100000 in
theorem sp_X3_sweep (l : Launch) (D : Dg) (B : Nat) (m : Nat) (S : Mm) (t : Tw) (hT : twK B S m) (fc ch : Nat) (hfc : t.1 10 = nI fc) (hfc8 : fc < 8) (hch : t.1 9 = nI ch) (hch8 : ch ≤ 8) : Sp eI l D B yX3_sweep (ws_ yX3_sweep cX3_sweep 2 (some .int)) (rmL 4 0 0) [.ref m] (tw m S t) (fun v S' => v = (oSweep t fc ch).1 ∧ S' = tw m S ((oSweep t fc ch).2)) (fun _ _ _ => False) := by
  refine Sp.of cX3_sweep 2 (some .int) [(0, .ref m)] rfl (Nat.le_of_ble_eq_true rfl) rfl fun g X Y hr hnm hgl hgD hgB hex => ?_
  subst hgl hgD hgB
  refine g_aload_n X 0 rfl rfl dX3_sweep_0 ?_
  refine g_iconst X (nI 0) (by first | rfl | decide) dX3_sweep_1 ?_
  refine g_putV (S' := tw m S (twf t 0 (nI 0))) X mC_X3 0 (by decide) q3506 (mm_same.rf rfl) rfl (tK0 hT) (fun h => absurd h (by decide)) rfl rfl (.inl ⟨nI 0, rfl, rfl, tw_sI.symm⟩) dX3_sweep_2 ?_
  refine g_aload_n X 0 rfl rfl dX3_sweep_5 ?_
  refine g_callV (st := []) X (sp_X3_notSweep _ _ _ m S (twf t 0 (nI 0)) hT ) q3766 q3768 qs77 q119 q3769 ⟨rfl, (mm_npk 0 rfl (by decide +kernel))⟩ ⟨⟨Nat.le_of_ble_eq_true rfl, Nat.le_of_ble_eq_true rfl⟩, Nat.le_of_ble_eq_true rfl, Nat.le_of_ble_eq_true rfl⟩ mC_X3 (tK0 hT) rfl (Nat.le_of_ble_eq_true rfl) dX3_sweep_6 (fun _ _ _ h => False.elim h) (fun v_6 S_6 p_6 => ?_)
  obtain ⟨rfl, rfl⟩ := p_6
  refine G.eq (show _ = ([.int ((nSw (t.2 1) (t.1 4)).1)] : List Value) from rfl) ?_
  refine g_istore_n (L' := [(1, .int ((nSw (t.2 1) (t.1 4)).1)), (0, .ref m)]) X (by decide) rfl rfl dX3_sweep_9 ?_
  refine g_iload_n X 0 rfl rfl dX3_sweep_10 ?_
  refine g_if_eq X dX3_sweep_11 (tgt := 20) (by decide) (fun h_11 => ?_) (fun h_11 => ?_)
  · refine g_aload_n X 1 rfl rfl dX3_sweep_20 ?_
    refine g_callV (st := []) X (sp_X3_remembers _ _ _ m S (nT (twf t 0 (nI 0)) (nSw (t.2 1) (t.1 4))) hT fc ch hfc hfc8 hch hch8) q3586 q3588 qs49 q119 q3589 ⟨rfl, (mm_npk 0 rfl (by decide +kernel))⟩ ⟨⟨Nat.le_of_ble_eq_true rfl, Nat.le_of_ble_eq_true rfl⟩, Nat.le_of_ble_eq_true rfl, Nat.le_of_ble_eq_true rfl⟩ mC_X3 (tK0 hT) rfl (Nat.le_of_ble_eq_true rfl) dX3_sweep_21 (fun _ _ _ h => False.elim h) (fun v_21t S_21t p_21t => ?_)
    obtain rfl := p_21t
    refine G.eq (show _ = ([] : List Value) from rfl) ?_
    refine g_aload_n X 1 rfl rfl dX3_sweep_24 ?_
    refine g_callV (st := []) X (sp_X3_sweeps _ _ _ m S (rem (nT (twf t 0 (nI 0)) (nSw (t.2 1) (t.1 4))) fc ch) hT ) q3770 q3772 qs78 q119 q3773 ⟨rfl, (mm_npk 0 rfl (by decide +kernel))⟩ ⟨⟨Nat.le_of_ble_eq_true rfl, Nat.le_of_ble_eq_true rfl⟩, Nat.le_of_ble_eq_true rfl, Nat.le_of_ble_eq_true rfl⟩ mC_X3 (tK0 hT) rfl (Nat.le_of_ble_eq_true rfl) dX3_sweep_25 (fun _ _ _ h => False.elim h) (fun v_25t S_25t p_25t => ?_)
    obtain ⟨rfl, rfl⟩ := p_25t
    refine G.eq (show _ = ([.int (t.2 1 7)] : List Value) from rfl) ?_
    exact g_ireturn X Y hr rfl ⟨Nat.le_of_ble_eq_true rfl, Nat.le_of_ble_eq_true rfl⟩ dX3_sweep_28 (by unfold oSweep; rw [if_pos h_11]; exact ⟨rfl, rfl⟩)
  · refine g_aload_n X 1 rfl rfl dX3_sweep_14 ?_
    refine g_iload_n X 0 rfl rfl dX3_sweep_15 ?_
    refine g_callV (st := []) X (sp_X3_failsNow _ _ _ m S (nT (twf t 0 (nI 0)) (nSw (t.2 1) (t.1 4))) hT ((nSw (t.2 1) (t.1 4)).1)) q3682 q3684 qs64 q119 q3685 ⟨rfl, (mm_npk 1 rfl (by decide +kernel))⟩ ⟨⟨Nat.le_of_ble_eq_true rfl, Nat.le_of_ble_eq_true rfl⟩, Nat.le_of_ble_eq_true rfl, Nat.le_of_ble_eq_true rfl⟩ mC_X3 (tK0 hT) rfl (Nat.le_of_ble_eq_true rfl) dX3_sweep_16 (fun _ _ _ h => False.elim h) (fun v_16f S_16f p_16f => ?_)
    obtain ⟨rfl, rfl⟩ := p_16f
    refine G.eq (show _ = ([.int (nI 0)] : List Value) from rfl) ?_
    exact g_ireturn X Y hr rfl ⟨Nat.le_of_ble_eq_true rfl, Nat.le_of_ble_eq_true rfl⟩ dX3_sweep_19 (by unfold oSweep; rw [if_neg h_11]; exact ⟨rfl, rfl⟩)
set_option maxHeartbeats 4000000 in
set_option maxRecDepth 100000 in
theorem sp_X3_smallest (l : Launch) (D : Dg) (B : Nat) (m : Nat) (S : Mm) (t : Tw) (hT : twK B S m) (p q : Nat) (hp : p < 6) (hq : t.2 1 (16 + 10 * p + 2) = nI q) (hq5 : q ≤ 5) : Sp eI l D B yX3_smallest (ws_ yX3_smallest cX3_smallest 4 (some .int)) (rmL 2 0 0) [.ref m, .int (nI p)] (tw m S t) (fun v S' => v = oI (sm (szs (t.2 1) p) q) ∧ S' = tw m S t) (fun _ _ _ => False) := by
  refine Sp.of cX3_smallest 4 (some .int) [(0, .ref m), (1, .int (nI p))] rfl (Nat.le_of_ble_eq_true rfl) rfl fun g X Y hr hnm hgl hgD hgB hex => ?_
  subst hgl hgD hgB
  refine g_iconst X ((-1)) (by first | rfl | decide) dX3_smallest_0 ?_
  refine g_istore_n (L' := [(2, .int (-1)), (0, .ref m), (1, .int (nI p))]) X (by decide) rfl rfl dX3_smallest_1 ?_
  refine g_iconst X (nI 0) (by first | rfl | decide) dX3_smallest_2 ?_
  refine g_istore_n (L' := [(3, .int (nI 0)), (2, .int (-1)), (0, .ref m), (1, .int (nI p))]) X (by decide) rfl rfl dX3_smallest_3 ?_
  have key_4 : ∀ (k9 i : Nat) (o : Option Nat), q < i + k9 → i ≤ q → sm (szs (t.2 1) p) i = o → G g 0 0 (tw m S t) 4 [(3, .int (nI i)), (2, .int (oI o)), (1, .int (nI p)), (0, .ref m)] [] := by
    intro k9
    induction k9 with
    | zero => intro i _ a1 a2; omega
    | succ k9 ih_4 =>
      intro i o a1 a2 r1
      refine g_iload_n X 0 rfl rfl dX3_smallest_4 ?_
      refine g_aload_n X 3 rfl rfl dX3_smallest_5 ?_
      refine g_iload_n X 2 rfl rfl dX3_smallest_6 ?_
      refine g_iconst X (nI 2) (by first | rfl | decide) dX3_smallest_7 ?_
      refine g_callV (st := [.int (nI i)]) X (sp_X3_ofPool _ _ _ m S t hT p 2 (by omega)) q3606 q3608 qs53 q119 q3609 ⟨rfl, (mm_npk 2 rfl (by decide +kernel))⟩ ⟨⟨Nat.le_of_ble_eq_true rfl, Nat.le_of_ble_eq_true rfl⟩, Nat.le_of_ble_eq_true rfl, Nat.le_of_ble_eq_true rfl⟩ mC_X3 (tK0 hT) rfl (Nat.le_of_ble_eq_true rfl) dX3_smallest_8 (fun _ _ _ h => False.elim h) (fun v_8L S_8L p_8L => ?_)
      obtain ⟨rfl, rfl⟩ := p_8L
      refine G.eq (show _ = ([.int (nI q), .int (nI i)] : List Value) by rw [show t.2 1 (16 + 10 * p + 2) = nI q from (show t.2 1 (16 + 10 * p + 2) = nI q from hq)]; rfl) ?_
      refine g_icmp_ge X dX3_smallest_11 (tgt := 45) (by decide) (fun h_11L => ?_) (fun h_11L => ?_)
      · replace h_11L := (nI_leI (by omega) (by omega)).mp h_11L
        refine g_iload_n X 1 rfl rfl dX3_smallest_45 ?_
        exact g_ireturn X Y hr rfl ⟨Nat.le_of_ble_eq_true rfl, Nat.le_of_ble_eq_true rfl⟩ dX3_smallest_46 (by
            have e : i = q := by omega
            subst e; subst r1; exact ⟨rfl, rfl⟩)
      · replace h_11L := mt (nI_leI (by omega) (by omega)).mpr h_11L
        rcases o with _ | b
        · skip
          refine g_iload_n X 1 rfl rfl dX3_smallest_14 ?_
          refine g_if_lt X dX3_smallest_15 (tgt := 33) (by decide) (fun h_15Lfn => ?_) (fun h_15Lfn => ?_)
          · refine g_iload_n X 0 rfl rfl dX3_smallest_33 ?_
            refine g_goto X dX3_smallest_34 (tgt := 38) (by decide) ?_
            refine g_istore_n (L' := [(2, .int (nI i)), (3, .int (nI i)), (1, .int (nI p)), (0, .ref m)]) X (by decide) rfl rfl dX3_smallest_38 ?_
            refine g_iinc (L' := [(3, .int (nI (i + 1))), (2, .int (nI i)), (1, .int (nI p)), (0, .ref m)]) X 1 (nI (i + 1)) rfl (nI_1 _) (by decide) rfl dX3_smallest_39 ?_
            refine g_goto X dX3_smallest_42 (tgt := 4) (by decide) ?_
            refine G.locs (L' := [(3, .int (nI (i + 1))), (2, .int (oI (some i))), (1, .int (nI p)), (0, .ref m)]) [0, 1, 2, 3] rfl ?_
            exact ih_4 (i + 1) (some i) (by omega) (by omega) (sm_n r1)
          · exact absurd (by decide) h_15Lfn
        · skip
          refine g_iload_n X 1 rfl rfl dX3_smallest_14 ?_
          refine g_if_lt X dX3_smallest_15 (tgt := 33) (by decide) (fun h_15Lfs => ?_) (fun h_15Lfs => ?_)
          · exact absurd h_15Lfs (nI_pos (by have := sm_lt r1; omega))
          · refine g_aload_n X 3 rfl rfl dX3_smallest_18 ?_
            refine g_iload_n X 2 rfl rfl dX3_smallest_19 ?_
            refine g_iload_n X 0 rfl rfl dX3_smallest_20 ?_
            refine g_callV (st := []) X (sp_X3_sizeOf _ _ _ m S t hT p i (by omega)) q3634 q3636 qs58 q119 q3637 ⟨rfl, (mm_npk 2 rfl (by decide +kernel))⟩ ⟨⟨Nat.le_of_ble_eq_true rfl, Nat.le_of_ble_eq_true rfl⟩, Nat.le_of_ble_eq_true rfl, Nat.le_of_ble_eq_true rfl⟩ mC_X3 (tK0 hT) rfl (Nat.le_of_ble_eq_true rfl) dX3_smallest_21 (fun _ _ _ h => False.elim h) (fun v_21Lfsf S_21Lfsf p_21Lfsf => ?_)
            obtain ⟨rfl, rfl⟩ := p_21Lfsf
            refine G.eq (show _ = ([.int (t.2 1 (16 + 10 * p + 3 + i))] : List Value) from rfl) ?_
            refine g_aload_n X 3 rfl rfl dX3_smallest_24 ?_
            refine g_iload_n X 2 rfl rfl dX3_smallest_25 ?_
            refine g_iload_n X 1 rfl rfl dX3_smallest_26 ?_
            refine g_callV (st := [.int (t.2 1 (16 + 10 * p + 3 + i))]) X (sp_X3_sizeOf _ _ _ m S t hT p b (by have := sm_lt r1; omega)) q3634 q3636 qs58 q119 q3637 ⟨rfl, (mm_npk 2 rfl (by decide +kernel))⟩ ⟨⟨Nat.le_of_ble_eq_true rfl, Nat.le_of_ble_eq_true rfl⟩, Nat.le_of_ble_eq_true rfl, Nat.le_of_ble_eq_true rfl⟩ mC_X3 (tK0 hT) rfl (Nat.le_of_ble_eq_true rfl) dX3_smallest_27 (fun _ _ _ h => False.elim h) (fun v_27Lfsf S_27Lfsf p_27Lfsf => ?_)
            obtain ⟨rfl, rfl⟩ := p_27Lfsf
            refine G.eq (show _ = ([.int (t.2 1 (16 + 10 * p + 3 + b)), .int (t.2 1 (16 + 10 * p + 3 + i))] : List Value) from rfl) ?_
            refine g_icmp_ge X dX3_smallest_30 (tgt := 37) (by decide) (fun h_30Lfsf => ?_) (fun h_30Lfsf => ?_)
            · refine g_iload_n X 1 rfl rfl dX3_smallest_37 ?_
              refine g_istore_n (L' := [(2, .int (nI b)), (3, .int (nI i)), (1, .int (nI p)), (0, .ref m)]) X (by decide) rfl rfl dX3_smallest_38 ?_
              refine g_iinc (L' := [(3, .int (nI (i + 1))), (2, .int (nI b)), (1, .int (nI p)), (0, .ref m)]) X 1 (nI (i + 1)) rfl (nI_1 _) (by decide) rfl dX3_smallest_39 ?_
              refine g_goto X dX3_smallest_42 (tgt := 4) (by decide) ?_
              refine G.locs (L' := [(3, .int (nI (i + 1))), (2, .int (oI (some b))), (1, .int (nI p)), (0, .ref m)]) [0, 1, 2, 3] rfl ?_
              exact ih_4 (i + 1) (some b) (by omega) (by omega) (sm_f r1 (Int32.not_lt.mpr h_30Lfsf))
            · refine g_iload_n X 0 rfl rfl dX3_smallest_33 ?_
              refine g_goto X dX3_smallest_34 (tgt := 38) (by decide) ?_
              refine g_istore_n (L' := [(2, .int (nI i)), (3, .int (nI i)), (1, .int (nI p)), (0, .ref m)]) X (by decide) rfl rfl dX3_smallest_38 ?_
              refine g_iinc (L' := [(3, .int (nI (i + 1))), (2, .int (nI i)), (1, .int (nI p)), (0, .ref m)]) X 1 (nI (i + 1)) rfl (nI_1 _) (by decide) rfl dX3_smallest_39 ?_
              refine g_goto X dX3_smallest_42 (tgt := 4) (by decide) ?_
              refine G.locs (L' := [(3, .int (nI (i + 1))), (2, .int (oI (some i))), (1, .int (nI p)), (0, .ref m)]) [0, 1, 2, 3] rfl ?_
              exact ih_4 (i + 1) (some i) (by omega) (by omega) (sm_t r1 (Int32.not_le.mp h_30Lfsf))
        
  refine G.locs (L' := [(3, .int (nI 0)), (2, .int (-1)), (1, .int (nI p)), (0, .ref m)]) [0, 1, 3, 2] rfl ?_
  exact key_4 (q + 1) 0 none (by omega) (by omega) rfl
set_option maxHeartbeats 4000000 in
set_option maxRecDepth 100000 in
theorem sp_X3_changeOf (l : Launch) (D : Dg) (B : Nat) (m : Nat) (S : Mm) (t : Tw) (hT : twK B S m) (p q : Nat) (hp : p < 6) (hq : t.2 1 (16 + 10 * p + 2) = nI q) (hq5 : q ≤ 5) : Sp eI l D B yX3_changeOf (ws_ yX3_changeOf cX3_changeOf 3 (some .int)) (rmL 3 0 0) [.ref m, .int (nI p)] (tw m S t) (fun v S' => v = chg (t.2 1) p q ∧ S' = tw m S t) (fun _ _ _ => False) := by
  refine Sp.of cX3_changeOf 3 (some .int) [(0, .ref m), (1, .int (nI p))] rfl (Nat.le_of_ble_eq_true rfl) rfl fun g X Y hr hnm hgl hgD hgB hex => ?_
  subst hgl hgD hgB
  refine g_aload_n X 0 rfl rfl dX3_changeOf_0 ?_
  refine g_iload_n X 1 rfl rfl dX3_changeOf_1 ?_
  refine g_callV (st := []) X (sp_X3_smallest _ _ _ m S t hT p q hp hq hq5) q3810 q3812 qs87 q119 q3813 ⟨rfl, (mm_npk 1 rfl (by decide +kernel))⟩ ⟨⟨Nat.le_of_ble_eq_true rfl, Nat.le_of_ble_eq_true rfl⟩, Nat.le_of_ble_eq_true rfl, Nat.le_of_ble_eq_true rfl⟩ mC_X3 (tK0 hT) rfl (Nat.le_of_ble_eq_true rfl) dX3_changeOf_2 (fun _ _ _ h => False.elim h) (fun v_2 S_2 p_2 => ?_)
  obtain ⟨rfl, rfl⟩ := p_2
  refine G.eq (show _ = ([.int (oI (sm (szs (t.2 1) p) q))] : List Value) from rfl) ?_
  rcases hsm : sm (szs (t.2 1) p) q with _ | b
  · skip
    refine g_istore_n (L' := [(2, .int (-1)), (0, .ref m), (1, .int (nI p))]) X (by decide) rfl rfl dX3_changeOf_5 ?_
    refine g_iload_n X 0 rfl rfl dX3_changeOf_6 ?_
    refine g_if_ge X dX3_changeOf_7 (tgt := 12) (by decide) (fun h_7n => ?_) (fun h_7n => ?_)
    · exact absurd h_7n (by decide)
    · refine g_iconst X (nI 0) (by first | rfl | decide) dX3_changeOf_10 ?_
      exact g_ireturn X Y hr rfl ⟨Nat.le_of_ble_eq_true rfl, Nat.le_of_ble_eq_true rfl⟩ dX3_changeOf_11 (⟨by unfold chg; rw [hsm], rfl⟩)
  · skip
    refine g_istore_n (L' := [(2, .int (nI b)), (0, .ref m), (1, .int (nI p))]) X (by decide) rfl rfl dX3_changeOf_5 ?_
    refine g_iload_n X 0 rfl rfl dX3_changeOf_6 ?_
    refine g_if_ge X dX3_changeOf_7 (tgt := 12) (by decide) (fun h_7s => ?_) (fun h_7s => ?_)
    · refine g_aload_n X 1 rfl rfl dX3_changeOf_12 ?_
      refine g_getR (v := some (m + 1)) X mC_X3 5 (by decide) q3511 (mm_same.rf rfl) rfl (tK0 hT) (tR1 hT) dX3_changeOf_13 ?_
      refine g_bipush X (nI 6) (by first | rfl | decide) dX3_changeOf_16 ?_
      refine g_iald (v := t.2 1 6) X (mm_ix.of rfl (by omega) (by omega)) (tK1 hT) (tw_A (by decide)) dX3_changeOf_18 ?_
      refine g_bipush X (nI 50) (by first | rfl | decide) dX3_changeOf_19 ?_
      refine g_icmp_ge X dX3_changeOf_21 (tgt := 41) (by decide) (fun h_21st => ?_) (fun h_21st => ?_)
      · refine g_aload_n X 1 rfl rfl dX3_changeOf_41 ?_
        refine g_iload_n X 2 rfl rfl dX3_changeOf_42 ?_
        refine g_iload_n X 0 rfl rfl dX3_changeOf_43 ?_
        refine g_callV (st := []) X (sp_X3_sizeOf _ _ _ m S t hT p b (by have := sm_lt hsm; omega)) q3634 q3636 qs58 q119 q3637 ⟨rfl, (mm_npk 2 rfl (by decide +kernel))⟩ ⟨⟨Nat.le_of_ble_eq_true rfl, Nat.le_of_ble_eq_true rfl⟩, Nat.le_of_ble_eq_true rfl, Nat.le_of_ble_eq_true rfl⟩ mC_X3 (tK0 hT) rfl (Nat.le_of_ble_eq_true rfl) dX3_changeOf_44 (fun _ _ _ h => False.elim h) (fun v_44stt S_44stt p_44stt => ?_)
        obtain ⟨rfl, rfl⟩ := p_44stt
        refine G.eq (show _ = ([.int (t.2 1 (16 + 10 * p + 3 + b))] : List Value) from rfl) ?_
        refine g_iconst X (nI 1) (by first | rfl | decide) dX3_changeOf_47 ?_
        refine g_icmp_le X dX3_changeOf_48 (tgt := 55) (by decide) (fun h_48stt => ?_) (fun h_48stt => ?_)
        · refine g_iconst X (nI 0) (by first | rfl | decide) dX3_changeOf_55 ?_
          exact g_ireturn X Y hr rfl ⟨Nat.le_of_ble_eq_true rfl, Nat.le_of_ble_eq_true rfl⟩ dX3_changeOf_56 (⟨by unfold chg; rw [hsm]; exact ((if_neg (Int32.not_lt.mpr h_21st)).trans (if_neg (Int32.not_lt.mpr h_48stt))).symm, rfl⟩)
        · refine g_iconst X ((-1)) (by first | rfl | decide) dX3_changeOf_51 ?_
          refine g_goto X dX3_changeOf_52 (tgt := 56) (by decide) ?_
          exact g_ireturn X Y hr rfl ⟨Nat.le_of_ble_eq_true rfl, Nat.le_of_ble_eq_true rfl⟩ dX3_changeOf_56 (⟨by unfold chg; rw [hsm]; exact ((if_neg (Int32.not_lt.mpr h_21st)).trans (if_pos (Int32.not_le.mp h_48stt))).symm, rfl⟩)
      · refine g_aload_n X 1 rfl rfl dX3_changeOf_24 ?_
        refine g_iload_n X 2 rfl rfl dX3_changeOf_25 ?_
        refine g_iload_n X 0 rfl rfl dX3_changeOf_26 ?_
        refine g_callV (st := []) X (sp_X3_sizeOf _ _ _ m S t hT p b (by have := sm_lt hsm; omega)) q3634 q3636 qs58 q119 q3637 ⟨rfl, (mm_npk 2 rfl (by decide +kernel))⟩ ⟨⟨Nat.le_of_ble_eq_true rfl, Nat.le_of_ble_eq_true rfl⟩, Nat.le_of_ble_eq_true rfl, Nat.le_of_ble_eq_true rfl⟩ mC_X3 (tK0 hT) rfl (Nat.le_of_ble_eq_true rfl) dX3_changeOf_27 (fun _ _ _ h => False.elim h) (fun v_27stf S_27stf p_27stf => ?_)
        obtain ⟨rfl, rfl⟩ := p_27stf
        refine G.eq (show _ = ([.int (t.2 1 (16 + 10 * p + 3 + b))] : List Value) from rfl) ?_
        refine g_bipush X (nI 99) (by first | rfl | decide) dX3_changeOf_30 ?_
        refine g_icmp_ge X dX3_changeOf_32 (tgt := 39) (by decide) (fun h_32stf => ?_) (fun h_32stf => ?_)
        · refine g_iconst X (nI 0) (by first | rfl | decide) dX3_changeOf_39 ?_
          exact g_ireturn X Y hr rfl ⟨Nat.le_of_ble_eq_true rfl, Nat.le_of_ble_eq_true rfl⟩ dX3_changeOf_40 (⟨by unfold chg; rw [hsm]; exact ((if_pos (Int32.not_le.mp h_21st)).trans (if_neg (Int32.not_lt.mpr h_32stf))).symm, rfl⟩)
        · refine g_iconst X (nI 1) (by first | rfl | decide) dX3_changeOf_35 ?_
          refine g_goto X dX3_changeOf_36 (tgt := 40) (by decide) ?_
          exact g_ireturn X Y hr rfl ⟨Nat.le_of_ble_eq_true rfl, Nat.le_of_ble_eq_true rfl⟩ dX3_changeOf_40 (⟨by unfold chg; rw [hsm]; exact ((if_pos (Int32.not_le.mp h_21st)).trans (if_pos (Int32.not_le.mp h_32stf))).symm, rfl⟩)
    · exact absurd (nI_pos' (by have := sm_lt hsm; omega)) h_7s
  
