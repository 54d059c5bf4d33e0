/-- f 0 + .. + f (n - 1) -/
def sI (f : Nat → Int32) : Nat → Int32
  | 0 => nI 0
  | n + 1 => sI f n + f n
/-- the state in which a call refuses -/
def refT (t : Tw) (x y z : Int32) : Tw := twf (twf (twf t 1 y) 2 z) 0 x
abbrev t0 (t : Tw) : Tw := twf t 0 (nI 0)
abbrev cN (x : Int32) : Nat := x.toNatClampNeg
theorem cN_nI {n : Nat} (h : n < 2 ^ 31) : cN (nI n) = n := nI_clamp h
def rAddPool (w : Nat → Int32) (np : Nat) (x : Int32) : Nat → Int32 := upd (upd w (16 + 10 * np) x) 1 (nI (np + 1))
def oAddPool (t : Tw) (np fc ch : Nat) (x : Int32) : Int32 × Tw :=
  if nI 5 ≤ x ∧ x ≤ nI 99 then (if np = 6 then (nI 0, refT (t0 t) (nI 2) (nI 1) (nI 6)) else (nI np, tws (rem (t0 t) fc ch) 1 (rAddPool (t.2 1) np x))) else (nI 0, twf (t0 t) 0 (nI 1))
/-- how many stones are over the pool p -/
def sOver (w : Nat → Int32) (ns p : Nat) : Int32 := sI (fun s => bI (w (76 + 5 * s + 0) = nI p)) ns
def oPool (t : Tw) (np ns : Nat) (x y : Int32) : Int32 × Tw :=
  if ixb x np then
    (if ixb y 6 then ((if cN y = 3 then sOver (t.2 1) ns (cN x) else if cN y = 4 then t.2 1 (16 + 10 * cN x + 8) else if cN y = 5 then t.2 1 (16 + 10 * cN x + 9) else t.2 1 (16 + 10 * cN x + cN y)), t0 t) else (nI 0, twf (t0 t) 0 (nI 2)))
  else (nI 0, twf (t0 t) 0 (nI 1))
def rAddPearl (w : Nat → Int32) (p q : Nat) (x : Int32) : Nat → Int32 := upd (upd (upd w (16 + 10 * p + 3 + q) x) (16 + 10 * p + 2) (nI (q + 1))) 14 (w 14 + x)
def oAddPearl (t : Tw) (np fc ch : Nat) (has : Nat → Nat) (x y : Int32) : Int32 × Tw :=
  if ixb x np then
    (if nI 1 ≤ y ∧ y ≤ nI 99 then (if has (cN x) = 5 then (nI 0, refT (t0 t) (nI 3) (nI 1) (nI 5)) else (nI (has (cN x)), tws (rem (t0 t) fc ch) 1 (rAddPearl (t.2 1) (cN x) (has (cN x)) y))) else (nI 0, twf (t0 t) 0 (nI 2)))
  else (nI 0, twf (t0 t) 0 (nI 1))
/-- the pearls behind the place k move up by one, as far as i -/
def shp (w : Nat → Int32) (p k i : Nat) : Nat → Int32 := fun j => if 16 + 10 * p + 3 + k ≤ j ∧ j + 1 < 16 + 10 * p + 3 + i then w (j + 1) else w j
def rTakePearl (w : Nat → Int32) (p q k : Nat) : Nat → Int32 := upd (upd (upd (shp w p k q) (16 + 10 * p + 2) (nI (q - 1))) (16 + 10 * p + 3 + (q - 1)) (nI 0)) 15 (w 15 + w (16 + 10 * p + 3 + k))
def oTakePearl (t : Tw) (np fc ch : Nat) (has : Nat → Nat) (x y : Int32) : Int32 × Tw :=
  if ixb x np then
    (if ixb y (has (cN x)) then (t.2 1 (16 + 10 * cN x + 3 + cN y), tws (rem (t0 t) fc ch) 1 (rTakePearl (t.2 1) (cN x) (has (cN x)) (cN y))) else (nI 0, twf (t0 t) 0 (nI 2)))
  else (nI 0, twf (t0 t) 0 (nI 1))
def oPearl (t : Tw) (np : Nat) (has : Nat → Nat) (x y : Int32) : Int32 × Tw :=
  if ixb x np then (if ixb y (has (cN x)) then (t.2 1 (16 + 10 * cN x + 3 + cN y), t0 t) else (nI 0, twf (t0 t) 0 (nI 2))) else (nI 0, twf (t0 t) 0 (nI 1))
theorem shp_0 {w : Nat → Int32} {p k : Nat} : shp w p k (k + 1) = w := by
  funext j
  exact if_neg (by omega)
theorem shp_s {w : Nat → Int32} {p k i : Nat} (h : k < i) : upd (shp w p k i) (16 + 10 * p + 3 + i - 1) (w (16 + 10 * p + 3 + i)) = shp w p k (i + 1) := by
  funext j
  by_cases e : j = 16 + 10 * p + 3 + i - 1
  · subst e; rw [pk_us]
    show _ = if _ then _ else _
    rw [if_pos (by omega), show 16 + 10 * p + 3 + i - 1 + 1 = 16 + 10 * p + 3 + i by omega]
  · rw [pk_un e]
    show (if _ then _ else _) = if _ then _ else _
    by_cases h : 16 + 10 * p + 3 + k ≤ j ∧ j + 1 < 16 + 10 * p + 3 + i
    · rw [if_pos h, if_pos (by omega)]
    · rw [if_neg h, if_neg (by omega)]
set_option maxHeartbeats 4000000 in
set_option maxRecDepth 100000 in
theorem sp_X3_addPool (l : Launch) (D : Dg) (B : Nat) (m : Nat) (S : Mm) (t : Tw) (hT : twK B S m) (np : Nat) (hnp : t.2 1 1 = nI np) (hnp6 : np ≤ 6) (fc ch : Nat) (hfc : t.1 10 = nI fc) (hfc8 : fc < 8) (hch : t.1 9 = nI ch) (hch8 : ch ≤ 8) (x : Int32) : Sp eI l D B yX3_addPool (ws_ yX3_addPool cX3_addPool 2 (some .int)) (rmL 3 0 0) [.ref m, .int x] (tw m S t) (fun v S' => v = (oAddPool t np fc ch x).1 ∧ S' = tw m S ((oAddPool t np fc ch x).2)) (fun _ _ _ => False) := by
  refine Sp.of cX3_addPool 2 (some .int) [(0, .ref m), (1, .int x)] rfl (Nat.le_of_ble_eq_true rfl) rfl fun g X Y hr hnm hgl hgD hgB hex => ?_
  subst hgl hgD hgB
  refine g_aload_n X 0 rfl rfl dX3_addPool_0 ?_
  refine g_iconst X (nI 0) (by first | rfl | decide) dX3_addPool_1 ?_
  refine g_putV (S' := tw m S (twf t 0 (nI 0))) X mC_X3 0 (by decide) q3506 (mm_same.rf rfl) rfl (tK0 hT) (fun h => absurd h (by decide)) rfl rfl (.inl ⟨nI 0, rfl, rfl, tw_sI.symm⟩) dX3_addPool_2 ?_
  refine g_iload_n X 1 rfl rfl dX3_addPool_5 ?_
  refine g_iconst X (nI 5) (by first | rfl | decide) dX3_addPool_6 ?_
  refine g_bipush X (nI 99) (by first | rfl | decide) dX3_addPool_7 ?_
  refine g_callS (st := []) X (sp_X3_isBetween _ _ _ (tw m S (twf t 0 (nI 0))) x (nI 5) (nI 99)) q3575 q3576 q119 q3577 (mm_npk 3 rfl (by decide +kernel)) ⟨⟨Nat.le_of_ble_eq_true rfl, Nat.le_of_ble_eq_true rfl⟩, Nat.le_of_ble_eq_true rfl, Nat.le_of_ble_eq_true rfl⟩ rfl (Nat.le_of_ble_eq_true rfl) dX3_addPool_9 (fun _ _ _ h => False.elim h) (fun v_9 S_9 p_9 => ?_)
  obtain ⟨rfl, rfl⟩ := p_9
  refine G.eq (show _ = ([.int (bI ((nI 5) ≤ x ∧ x ≤ (nI 99)))] : List Value) from rfl) ?_
  refine g_if_ne X dX3_addPool_12 (tgt := 21) (by decide) (fun h_12 => ?_) (fun h_12 => ?_)
  · replace h_12 := bI_1.mp h_12
    refine g_aload_n X 0 rfl rfl dX3_addPool_21 ?_
    refine g_getR (v := some (m + 1)) X mC_X3 5 (by decide) q3511 (mm_same.rf rfl) rfl (tK0 hT) (tR1 hT) dX3_addPool_22 ?_
    refine g_iconst X (nI 1) (by first | rfl | decide) dX3_addPool_25 ?_
    refine g_iald (v := nI np) X (mm_ix.of rfl (by omega) (by omega)) (tK1 hT) ((tw_A (by decide)).trans (show t.2 1 1 = nI np from hnp)) dX3_addPool_26 ?_
    refine g_bipush X (nI 6) (by first | rfl | decide) dX3_addPool_27 ?_
    refine g_icmp_ne X dX3_addPool_29 (tgt := 41) (by decide) (fun h_29t => ?_) (fun h_29t => ?_)
    · replace h_29t := mt (nI_eq (by omega) (by omega)).mpr h_29t
      refine g_aload_n X 0 rfl rfl dX3_addPool_41 ?_
      refine g_callV (st := []) X (sp_X3_remembers _ _ _ m S (twf t 0 (nI 0)) hT fc ch hfc hfc8 hch hch8) q3586 q3588 qs49 q119 q3589 ⟨rfl, (mm_npk 0 rfl (by decide +kernel))⟩ ⟨⟨Nat.le_of_ble_eq_true rfl, Nat.le_of_ble_eq_true rfl⟩, Nat.le_of_ble_eq_true rfl, Nat.le_of_ble_eq_true rfl⟩ mC_X3 (tK0 hT) rfl (Nat.le_of_ble_eq_true rfl) dX3_addPool_42 (fun _ _ _ h => False.elim h) (fun v_42tt S_42tt p_42tt => ?_)
      obtain rfl := p_42tt
      refine G.eq (show _ = ([] : List Value) from rfl) ?_
      refine g_aload_n X 0 rfl rfl dX3_addPool_45 ?_
      refine g_getR (v := some (m + 1)) X mC_X3 5 (by decide) q3511 (mm_same.rf rfl) rfl (tK0 hT) (tR1 hT) dX3_addPool_46 ?_
      refine g_bipush X (nI 16) (by first | rfl | decide) dX3_addPool_49 ?_
      refine g_bipush X (nI 10) (by first | rfl | decide) dX3_addPool_51 ?_
      refine g_aload_n X 0 rfl rfl dX3_addPool_53 ?_
      refine g_getR (v := some (m + 1)) X mC_X3 5 (by decide) q3511 (mm_same.rf rfl) rfl (tK0 hT) (tR1 hT) dX3_addPool_54 ?_
      refine g_iconst X (nI 1) (by first | rfl | decide) dX3_addPool_57 ?_
      refine g_iald (v := nI np) X (mm_ix.of rfl (by omega) (by omega)) (tK1 hT) ((tw_A (by decide)).trans (show t.2 1 1 = nI np from hnp)) dX3_addPool_58 ?_
      refine g_imulN X rfl dX3_addPool_59 ?_
      refine g_iaddN X rfl dX3_addPool_60 ?_
      refine g_iload_n X 1 rfl rfl dX3_addPool_61 ?_
      refine g_iast (v := x) (S' := tw m S (tws (rem (twf t 0 (nI 0)) fc ch) 1 (upd (t.2 1) (16 + 10 * np) x))) X (mm_ix.of rfl (by omega) (by omega)) (tK1 hT) (tB1 hT) rfl (tw_sA (by decide)) dX3_addPool_62 ?_
      refine g_aload_n X 0 rfl rfl dX3_addPool_63 ?_
      refine g_getR (v := some (m + 1)) X mC_X3 5 (by decide) q3511 (mm_same.rf rfl) rfl (tK0 hT) (tR1 hT) dX3_addPool_64 ?_
      refine g_iconst X (nI 1) (by first | rfl | decide) dX3_addPool_67 ?_
      refine g_dup2 X rfl rfl dX3_addPool_68 ?_
      refine g_iald (v := nI np) X (mm_ix.of rfl (by omega) (by omega)) (tK1 hT) ((tw_A (by decide)).trans (show (upd (t.2 1) (16 + 10 * np) x) 1 = nI np from ((pk_un (by omega)).trans hnp))) dX3_addPool_69 ?_
      refine g_iconst X (nI 1) (by first | rfl | decide) dX3_addPool_70 ?_
      refine g_iaddN X rfl dX3_addPool_71 ?_
      refine g_iast (v := nI (np + 1)) (S' := tw m S (tws (rem (twf t 0 (nI 0)) fc ch) 1 (upd (upd (t.2 1) (16 + 10 * np) x) 1 (nI (np + 1))))) X (mm_ix.of rfl (by omega) (by omega)) (tK1 hT) (tB1 hT) rfl (tw_sA2 (by decide)) dX3_addPool_72 ?_
      refine g_aload_n X 0 rfl rfl dX3_addPool_73 ?_
      refine g_getR (v := some (m + 1)) X mC_X3 5 (by decide) q3511 (mm_same.rf rfl) rfl (tK0 hT) (tR1 hT) dX3_addPool_74 ?_
      refine g_iconst X (nI 1) (by first | rfl | decide) dX3_addPool_77 ?_
      refine g_iald (v := nI (np + 1)) X (mm_ix.of rfl (by omega) (by omega)) (tK1 hT) ((tw_A (by decide)).trans (show (upd (upd (t.2 1) (16 + 10 * np) x) 1 (nI (np + 1))) 1 = nI (np + 1) from pk_us)) dX3_addPool_78 ?_
      refine g_iconst X (nI 1) (by first | rfl | decide) dX3_addPool_79 ?_
      refine g_isubN (z := np) X (by omega) dX3_addPool_80 ?_
      exact g_ireturn X Y hr rfl ⟨Nat.le_of_ble_eq_true rfl, Nat.le_of_ble_eq_true rfl⟩ dX3_addPool_81 (by unfold oAddPool; rw [if_pos h_12, if_neg h_29t]; exact ⟨rfl, rfl⟩)
    · replace h_29t := (nI_eq (by omega) (by omega)).mp h_29t
      refine g_aload_n X 0 rfl rfl dX3_addPool_32 ?_
      refine g_iconst X (nI 2) (by first | rfl | decide) dX3_addPool_33 ?_
      refine g_iconst X (nI 1) (by first | rfl | decide) dX3_addPool_34 ?_
      refine g_bipush X (nI 6) (by first | rfl | decide) dX3_addPool_35 ?_
      refine g_callV (st := []) X (sp_X3_refuses _ _ _ m S (twf t 0 (nI 0)) hT (nI 2) (nI 1) (nI 6)) q3582 q3584 qs48 q119 q3585 ⟨rfl, (mm_npk 3 rfl (by decide +kernel))⟩ ⟨⟨Nat.le_of_ble_eq_true rfl, Nat.le_of_ble_eq_true rfl⟩, Nat.le_of_ble_eq_true rfl, Nat.le_of_ble_eq_true rfl⟩ mC_X3 (tK0 hT) rfl (Nat.le_of_ble_eq_true rfl) dX3_addPool_37 (fun _ _ _ h => False.elim h) (fun v_37tf S_37tf p_37tf => ?_)
      obtain ⟨rfl, rfl⟩ := p_37tf
      refine G.eq (show _ = ([.int (nI 0)] : List Value) from rfl) ?_
      exact g_ireturn X Y hr rfl ⟨Nat.le_of_ble_eq_true rfl, Nat.le_of_ble_eq_true rfl⟩ dX3_addPool_40 (by unfold oAddPool; rw [if_pos h_12, if_pos h_29t]; exact ⟨rfl, rfl⟩)
  · replace h_12 := bI_0.mp h_12
    refine g_aload_n X 0 rfl rfl dX3_addPool_15 ?_
    refine g_iconst X (nI 1) (by first | rfl | decide) dX3_addPool_16 ?_
    refine g_callV (st := []) X (sp_X3_fails _ _ _ m S (twf t 0 (nI 0)) hT (nI 1)) q3578 q3580 qs47 q119 q3581 ⟨rfl, (mm_npk 1 rfl (by decide +kernel))⟩ ⟨⟨Nat.le_of_ble_eq_true rfl, Nat.le_of_ble_eq_true rfl⟩, Nat.le_of_ble_eq_true rfl, Nat.le_of_ble_eq_true rfl⟩ mC_X3 (tK0 hT) rfl (Nat.le_of_ble_eq_true rfl) dX3_addPool_17 (fun _ _ _ h => False.elim h) (fun v_17f S_17f p_17f => ?_)
    obtain ⟨rfl, rfl⟩ := p_17f
    refine G.eq (show _ = ([.int (nI 0)] : List Value) from rfl) ?_
    exact g_ireturn X Y hr rfl ⟨Nat.le_of_ble_eq_true rfl, Nat.le_of_ble_eq_true rfl⟩ dX3_addPool_20 (by unfold oAddPool; rw [if_neg h_12]; exact ⟨rfl, rfl⟩)
set_option maxHeartbeats 4000000 in
set_option maxRecDepth 100000 in
theorem sp_X3_stonesOver (l : Launch) (D : Dg) (B : Nat) (m : Nat) (S : Mm) (t : Tw) (hT : twK B S m) (ns : Nat) (hns : t.2 1 2 = nI ns) (hns8 : ns ≤ 8) (p : Nat) (hp : p < 100) (bel : Nat → Nat) (hbel : ∀ s, s < ns → t.2 1 (76 + 5 * s + 0) = nI (bel s) ∧ bel s < 100) : Sp eI l D B yX3_stonesOver (ws_ yX3_stonesOver cX3_stonesOver 4 (some .int)) (rmL 2 0 0) [.ref m, .int (nI p)] (tw m S t) (fun v S' => v = sOver (t.2 1) ns p ∧ S' = tw m S t) (fun _ _ _ => False) := by
  refine Sp.of cX3_stonesOver 4 (some .int) [(0, .ref m), (1, .int (nI p))] rfl (Nat.le_of_ble_eq_true rfl) rfl fun g X Y hr hnm hgl hgD hgB hex => ?_
  subst hgl hgD hgB
  refine g_iconst X (nI 0) (by first | rfl | decide) dX3_stonesOver_0 ?_
  refine g_istore_n (L' := [(2, .int (nI 0)), (0, .ref m), (1, .int (nI p))]) X (by decide) rfl rfl dX3_stonesOver_1 ?_
  refine g_iconst X (nI 0) (by first | rfl | decide) dX3_stonesOver_2 ?_
  refine g_istore_n (L' := [(3, .int (nI 0)), (2, .int (nI 0)), (0, .ref m), (1, .int (nI p))]) X (by decide) rfl rfl dX3_stonesOver_3 ?_
  have key_4 : ∀ (k9 i : Nat) , ns < i + k9 → i ≤ ns → G g 0 0 (tw m S t) 4 [(3, .int (nI i)), (2, .int (sI (fun s => bI (t.2 1 (76 + 5 * s + 0) = nI p)) i)), (1, .int (nI p)), (0, .ref m)] [] := by
    intro k9
    induction k9 with
    | zero => intro i  a1 a2; omega
    | succ k9 ih_4 =>
      intro i  a1 a2
      refine g_iload_n X 0 rfl rfl dX3_stonesOver_4 ?_
      refine g_aload_n X 3 rfl rfl dX3_stonesOver_5 ?_
      refine g_getR (v := some (m + 1)) X mC_X3 5 (by decide) q3511 (mm_same.rf rfl) rfl (tK0 hT) (tR1 hT) dX3_stonesOver_6 ?_
      refine g_iconst X (nI 2) (by first | rfl | decide) dX3_stonesOver_9 ?_
      refine g_iald (v := nI ns) X (mm_ix.of rfl (by omega) (by omega)) (tK1 hT) ((tw_A (by decide)).trans (show t.2 1 2 = nI ns from hns)) dX3_stonesOver_10 ?_
      refine g_icmp_ge X dX3_stonesOver_11 (tgt := 38) (by decide) (fun h_11L => ?_) (fun h_11L => ?_)
      · replace h_11L := (nI_leI (by omega) (by omega)).mp h_11L
        refine g_iload_n X 1 rfl rfl dX3_stonesOver_38 ?_
        exact g_ireturn X Y hr rfl ⟨Nat.le_of_ble_eq_true rfl, Nat.le_of_ble_eq_true rfl⟩ dX3_stonesOver_39 (by
            have e : i = ns := by omega
            subst e; exact ⟨rfl, rfl⟩)
      · replace h_11L := mt (nI_leI (by omega) (by omega)).mpr h_11L
        refine g_iload_n X 1 rfl rfl dX3_stonesOver_14 ?_
        refine g_aload_n X 3 rfl rfl dX3_stonesOver_15 ?_
        refine g_iload_n X 0 rfl rfl dX3_stonesOver_16 ?_
        refine g_iconst X (nI 0) (by first | rfl | decide) dX3_stonesOver_17 ?_
        refine g_callV (st := [.int (sI (fun s => bI (t.2 1 (76 + 5 * s + 0) = nI p)) i)]) X (sp_X3_ofStone _ _ _ m S t hT i 0 (by omega)) q3614 q3616 qs55 q119 q3617 ⟨rfl, (mm_npk 2 rfl (by decide +kernel))⟩ ⟨⟨Nat.le_of_ble_eq_true rfl, Nat.le_of_ble_eq_true rfl⟩, Nat.le_of_ble_eq_true rfl, Nat.le_of_ble_eq_true rfl⟩ mC_X3 (tK0 hT) rfl (Nat.le_of_ble_eq_true rfl) dX3_stonesOver_18 (fun _ _ _ h => False.elim h) (fun v_18Lf S_18Lf p_18Lf => ?_)
        obtain ⟨rfl, rfl⟩ := p_18Lf
        refine G.eq (show _ = ([.int (t.2 1 (76 + 5 * i + 0)), .int (sI (fun s => bI (t.2 1 (76 + 5 * s + 0) = nI p)) i)] : List Value) from rfl) ?_
        refine g_iload_n X 2 rfl rfl dX3_stonesOver_21 ?_
        refine g_icmp_ne X dX3_stonesOver_22 (tgt := 29) (by decide) (fun h_22Lf => ?_) (fun h_22Lf => ?_)
        · refine g_iconst X (nI 0) (by first | rfl | decide) dX3_stonesOver_29 ?_
          refine g_iadd X dX3_stonesOver_30 ?_
          refine G.eq (show _ = (.int (sI (fun s => bI (t.2 1 (76 + 5 * s + 0) = nI p)) (i + 1)) :: _ : List Value) from by show _ = (.int (sI _ i + bI _) :: _ : List Value); rw [bI_f h_22Lf]) ?_
          refine g_istore_n (L' := [(2, .int (sI (fun s => bI (t.2 1 (76 + 5 * s + 0) = nI p)) (i + 1))), (3, .int (nI i)), (1, .int (nI p)), (0, .ref m)]) X (by decide) rfl rfl dX3_stonesOver_31 ?_
          refine g_iinc (L' := [(3, .int (nI (i + 1))), (2, .int (sI (fun s => bI (t.2 1 (76 + 5 * s + 0) = nI p)) (i + 1))), (1, .int (nI p)), (0, .ref m)]) X 1 (nI (i + 1)) rfl (nI_1 _) (by decide) rfl dX3_stonesOver_32 ?_
          refine g_goto X dX3_stonesOver_35 (tgt := 4) (by decide) ?_
          exact ih_4 (i + 1) (by omega) (by omega)
        · refine g_iconst X (nI 1) (by first | rfl | decide) dX3_stonesOver_25 ?_
          refine g_goto X dX3_stonesOver_26 (tgt := 30) (by decide) ?_
          refine g_iadd X dX3_stonesOver_30 ?_
          refine G.eq (show _ = (.int (sI (fun s => bI (t.2 1 (76 + 5 * s + 0) = nI p)) (i + 1)) :: _ : List Value) from by show _ = (.int (sI _ i + bI _) :: _ : List Value); rw [bI_t h_22Lf]) ?_
          refine g_istore_n (L' := [(2, .int (sI (fun s => bI (t.2 1 (76 + 5 * s + 0) = nI p)) (i + 1))), (3, .int (nI i)), (1, .int (nI p)), (0, .ref m)]) X (by decide) rfl rfl dX3_stonesOver_31 ?_
          refine g_iinc (L' := [(3, .int (nI (i + 1))), (2, .int (sI (fun s => bI (t.2 1 (76 + 5 * s + 0) = nI p)) (i + 1))), (1, .int (nI p)), (0, .ref m)]) X 1 (nI (i + 1)) rfl (nI_1 _) (by decide) rfl dX3_stonesOver_32 ?_
          refine g_goto X dX3_stonesOver_35 (tgt := 4) (by decide) ?_
          exact ih_4 (i + 1) (by omega) (by omega)
  refine G.locs (L' := [(3, .int (nI 0)), (2, .int (sI (fun s => bI (t.2 1 (76 + 5 * s + 0) = nI p)) 0)), (1, .int (nI p)), (0, .ref m)]) [0, 1, 3, 2] rfl ?_
  exact key_4 (ns + 1) 0  (by omega) (by omega)
set_option maxHeartbeats 4000000 in
set_option maxRecDepth 100000 in
theorem sp_X3_pool (l : Launch) (D : Dg) (B : Nat) (m : Nat) (S : Mm) (t : Tw) (hT : twK B S m) (np : Nat) (hnp : t.2 1 1 = nI np) (hnp6 : np ≤ 6) (ns : Nat) (hns : t.2 1 2 = nI ns) (hns8 : ns ≤ 8) (bel : Nat → Nat) (hbel : ∀ s, s < ns → t.2 1 (76 + 5 * s + 0) = nI (bel s) ∧ bel s < 100) (x y : Int32) : Sp eI l D B yX3_pool (ws_ yX3_pool cX3_pool 3 (some .int)) (rmL 3 0 0) [.ref m, .int x, .int y] (tw m S t) (fun v S' => v = (oPool t np ns x y).1 ∧ S' = tw m S ((oPool t np ns x y).2)) (fun _ _ _ => False) := by
  refine Sp.of cX3_pool 3 (some .int) [(0, .ref m), (1, .int x), (2, .int y)] rfl (Nat.le_of_ble_eq_true rfl) rfl fun g X Y hr hnm hgl hgD hgB hex => ?_
  subst hgl hgD hgB
  refine g_aload_n X 0 rfl rfl dX3_pool_0 ?_
  refine g_iconst X (nI 0) (by first | rfl | decide) dX3_pool_1 ?_
  refine g_putV (S' := tw m S (twf t 0 (nI 0))) X mC_X3 0 (by decide) q3506 (mm_same.rf rfl) rfl (tK0 hT) (fun h => absurd h (by decide)) rfl rfl (.inl ⟨nI 0, rfl, rfl, tw_sI.symm⟩) dX3_pool_2 ?_
  refine g_aload_n X 0 rfl rfl dX3_pool_5 ?_
  refine g_iload_n X 1 rfl rfl dX3_pool_6 ?_
  refine g_callV (st := []) X (sp_X3_isPool _ _ _ m S (twf t 0 (nI 0)) hT x np hnp (by omega)) q3602 q3604 qs52 q119 q3605 ⟨rfl, (mm_npk 1 rfl (by decide +kernel))⟩ ⟨⟨Nat.le_of_ble_eq_true rfl, Nat.le_of_ble_eq_true rfl⟩, Nat.le_of_ble_eq_true rfl, Nat.le_of_ble_eq_true rfl⟩ mC_X3 (tK0 hT) rfl (Nat.le_of_ble_eq_true rfl) dX3_pool_7 (fun _ _ _ h => False.elim h) (fun v_7 S_7 p_7 => ?_)
  obtain ⟨rfl, rfl⟩ := p_7
  refine G.eq (show _ = ([.int (bI (ixb x np))] : List Value) from rfl) ?_
  refine g_if_ne X dX3_pool_10 (tgt := 19) (by decide) (fun h_10 => ?_) (fun h_10 => ?_)
  · replace h_10 := bI_1.mp h_10
    obtain ⟨p, hp, rfl⟩ := ixb_of h_10
    refine g_iload_n X 2 rfl rfl dX3_pool_19 ?_
    by_cases hsw : ixb y 6
    · obtain ⟨j, hj, rfl⟩ := ixb_of hsw
      match j, hj with
      | 0, _ =>
        refine g_tableIn X (by decide) (by decide) rfl (tgt := 60) (by decide) dX3_pool_20 ?_
        refine g_aload_n X 0 rfl rfl dX3_pool_60 ?_
        refine g_iload_n X 1 rfl rfl dX3_pool_61 ?_
        refine g_iload_n X 2 rfl rfl dX3_pool_62 ?_
        refine g_callV (st := []) X (sp_X3_ofPool _ _ _ m S (twf t 0 (nI 0)) hT p 0 (by omega)) q3606 q3608 qs53 q119 q3609 ⟨rfl, (mm_npk 2 rfl (by decide +kernel))⟩ ⟨⟨Nat.le_of_ble_eq_true rfl, Nat.le_of_ble_eq_true rfl⟩, Nat.le_of_ble_eq_true rfl, Nat.le_of_ble_eq_true rfl⟩ mC_X3 (tK0 hT) rfl (Nat.le_of_ble_eq_true rfl) dX3_pool_63 (fun _ _ _ h => False.elim h) (fun v_63ts0 S_63ts0 p_63ts0 => ?_)
        obtain ⟨rfl, rfl⟩ := p_63ts0
        refine G.eq (show _ = ([.int (t.2 1 (16 + 10 * p + 0))] : List Value) from rfl) ?_
        exact g_ireturn X Y hr rfl ⟨Nat.le_of_ble_eq_true rfl, Nat.le_of_ble_eq_true rfl⟩ dX3_pool_66 (by unfold oPool; rw [if_pos ((ixb_nI (by omega)).mpr hp), if_pos hsw, cN_nI (n := p) (by omega)]; exact ⟨rfl, rfl⟩)
      | 1, _ =>
        refine g_tableIn X (by decide) (by decide) rfl (tgt := 60) (by decide) dX3_pool_20 ?_
        refine g_aload_n X 0 rfl rfl dX3_pool_60 ?_
        refine g_iload_n X 1 rfl rfl dX3_pool_61 ?_
        refine g_iload_n X 2 rfl rfl dX3_pool_62 ?_
        refine g_callV (st := []) X (sp_X3_ofPool _ _ _ m S (twf t 0 (nI 0)) hT p 1 (by omega)) q3606 q3608 qs53 q119 q3609 ⟨rfl, (mm_npk 2 rfl (by decide +kernel))⟩ ⟨⟨Nat.le_of_ble_eq_true rfl, Nat.le_of_ble_eq_true rfl⟩, Nat.le_of_ble_eq_true rfl, Nat.le_of_ble_eq_true rfl⟩ mC_X3 (tK0 hT) rfl (Nat.le_of_ble_eq_true rfl) dX3_pool_63 (fun _ _ _ h => False.elim h) (fun v_63ts1 S_63ts1 p_63ts1 => ?_)
        obtain ⟨rfl, rfl⟩ := p_63ts1
        refine G.eq (show _ = ([.int (t.2 1 (16 + 10 * p + 1))] : List Value) from rfl) ?_
        exact g_ireturn X Y hr rfl ⟨Nat.le_of_ble_eq_true rfl, Nat.le_of_ble_eq_true rfl⟩ dX3_pool_66 (by unfold oPool; rw [if_pos ((ixb_nI (by omega)).mpr hp), if_pos hsw, cN_nI (n := p) (by omega)]; exact ⟨rfl, rfl⟩)
      | 2, _ =>
        refine g_tableIn X (by decide) (by decide) rfl (tgt := 60) (by decide) dX3_pool_20 ?_
        refine g_aload_n X 0 rfl rfl dX3_pool_60 ?_
        refine g_iload_n X 1 rfl rfl dX3_pool_61 ?_
        refine g_iload_n X 2 rfl rfl dX3_pool_62 ?_
        refine g_callV (st := []) X (sp_X3_ofPool _ _ _ m S (twf t 0 (nI 0)) hT p 2 (by omega)) q3606 q3608 qs53 q119 q3609 ⟨rfl, (mm_npk 2 rfl (by decide +kernel))⟩ ⟨⟨Nat.le_of_ble_eq_true rfl, Nat.le_of_ble_eq_true rfl⟩, Nat.le_of_ble_eq_true rfl, Nat.le_of_ble_eq_true rfl⟩ mC_X3 (tK0 hT) rfl (Nat.le_of_ble_eq_true rfl) dX3_pool_63 (fun _ _ _ h => False.elim h) (fun v_63ts2 S_63ts2 p_63ts2 => ?_)
        obtain ⟨rfl, rfl⟩ := p_63ts2
        refine G.eq (show _ = ([.int (t.2 1 (16 + 10 * p + 2))] : List Value) from rfl) ?_
        exact g_ireturn X Y hr rfl ⟨Nat.le_of_ble_eq_true rfl, Nat.le_of_ble_eq_true rfl⟩ dX3_pool_66 (by unfold oPool; rw [if_pos ((ixb_nI (by omega)).mpr hp), if_pos hsw, cN_nI (n := p) (by omega)]; exact ⟨rfl, rfl⟩)
      | 3, _ =>
        refine g_tableIn X (by decide) (by decide) rfl (tgt := 67) (by decide) dX3_pool_20 ?_
        refine g_aload_n X 0 rfl rfl dX3_pool_67 ?_
        refine g_iload_n X 1 rfl rfl dX3_pool_68 ?_
        refine g_callV (st := []) X (sp_X3_stonesOver _ _ _ m S (twf t 0 (nI 0)) hT ns hns hns8 p (by omega) bel hbel) q3610 q3612 qs54 q119 q3613 ⟨rfl, (mm_npk 1 rfl (by decide +kernel))⟩ ⟨⟨Nat.le_of_ble_eq_true rfl, Nat.le_of_ble_eq_true rfl⟩, Nat.le_of_ble_eq_true rfl, Nat.le_of_ble_eq_true rfl⟩ mC_X3 (tK0 hT) rfl (Nat.le_of_ble_eq_true rfl) dX3_pool_69 (fun _ _ _ h => False.elim h) (fun v_69ts3 S_69ts3 p_69ts3 => ?_)
        obtain ⟨rfl, rfl⟩ := p_69ts3
        refine G.eq (show _ = ([.int (sOver (t.2 1) ns p)] : List Value) from rfl) ?_
        exact g_ireturn X Y hr rfl ⟨Nat.le_of_ble_eq_true rfl, Nat.le_of_ble_eq_true rfl⟩ dX3_pool_72 (by unfold oPool; rw [if_pos ((ixb_nI (by omega)).mpr hp), if_pos hsw, cN_nI (n := p) (by omega)]; exact ⟨rfl, rfl⟩)
      | 4, _ =>
        refine g_tableIn X (by decide) (by decide) rfl (tgt := 73) (by decide) dX3_pool_20 ?_
        refine g_aload_n X 0 rfl rfl dX3_pool_73 ?_
        refine g_iload_n X 1 rfl rfl dX3_pool_74 ?_
        refine g_bipush X (nI 8) (by first | rfl | decide) dX3_pool_75 ?_
        refine g_callV (st := []) X (sp_X3_ofPool _ _ _ m S (twf t 0 (nI 0)) hT p 8 (by omega)) q3606 q3608 qs53 q119 q3609 ⟨rfl, (mm_npk 2 rfl (by decide +kernel))⟩ ⟨⟨Nat.le_of_ble_eq_true rfl, Nat.le_of_ble_eq_true rfl⟩, Nat.le_of_ble_eq_true rfl, Nat.le_of_ble_eq_true rfl⟩ mC_X3 (tK0 hT) rfl (Nat.le_of_ble_eq_true rfl) dX3_pool_77 (fun _ _ _ h => False.elim h) (fun v_77ts4 S_77ts4 p_77ts4 => ?_)
        obtain ⟨rfl, rfl⟩ := p_77ts4
        refine G.eq (show _ = ([.int (t.2 1 (16 + 10 * p + 8))] : List Value) from rfl) ?_
        exact g_ireturn X Y hr rfl ⟨Nat.le_of_ble_eq_true rfl, Nat.le_of_ble_eq_true rfl⟩ dX3_pool_80 (by unfold oPool; rw [if_pos ((ixb_nI (by omega)).mpr hp), if_pos hsw, cN_nI (n := p) (by omega)]; exact ⟨rfl, rfl⟩)
      | 5, _ =>
        refine g_tableIn X (by decide) (by decide) rfl (tgt := 81) (by decide) dX3_pool_20 ?_
        refine g_aload_n X 0 rfl rfl dX3_pool_81 ?_
        refine g_iload_n X 1 rfl rfl dX3_pool_82 ?_
        refine g_bipush X (nI 9) (by first | rfl | decide) dX3_pool_83 ?_
        refine g_callV (st := []) X (sp_X3_ofPool _ _ _ m S (twf t 0 (nI 0)) hT p 9 (by omega)) q3606 q3608 qs53 q119 q3609 ⟨rfl, (mm_npk 2 rfl (by decide +kernel))⟩ ⟨⟨Nat.le_of_ble_eq_true rfl, Nat.le_of_ble_eq_true rfl⟩, Nat.le_of_ble_eq_true rfl, Nat.le_of_ble_eq_true rfl⟩ mC_X3 (tK0 hT) rfl (Nat.le_of_ble_eq_true rfl) dX3_pool_85 (fun _ _ _ h => False.elim h) (fun v_85ts5 S_85ts5 p_85ts5 => ?_)
        obtain ⟨rfl, rfl⟩ := p_85ts5
        refine G.eq (show _ = ([.int (t.2 1 (16 + 10 * p + 9))] : List Value) from rfl) ?_
        exact g_ireturn X Y hr rfl ⟨Nat.le_of_ble_eq_true rfl, Nat.le_of_ble_eq_true rfl⟩ dX3_pool_88 (by unfold oPool; rw [if_pos ((ixb_nI (by omega)).mpr hp), if_pos hsw, cN_nI (n := p) (by omega)]; exact ⟨rfl, rfl⟩)
      | j + 6, h9 => exact absurd h9 (by omega)
    · refine g_tableOut X (by show _ ∨ _; by_cases z : y.toInt < 0; exact Or.inl z; exact Or.inr (by unfold ixb at hsw; omega)) (tgt := 89) (by decide) dX3_pool_20 ?_
      refine g_aload_n X 0 rfl rfl dX3_pool_89 ?_
      refine g_iconst X (nI 2) (by first | rfl | decide) dX3_pool_90 ?_
      refine g_callV (st := []) X (sp_X3_fails _ _ _ m S (twf t 0 (nI 0)) hT (nI 2)) q3578 q3580 qs47 q119 q3581 ⟨rfl, (mm_npk 1 rfl (by decide +kernel))⟩ ⟨⟨Nat.le_of_ble_eq_true rfl, Nat.le_of_ble_eq_true rfl⟩, Nat.le_of_ble_eq_true rfl, Nat.le_of_ble_eq_true rfl⟩ mC_X3 (tK0 hT) rfl (Nat.le_of_ble_eq_true rfl) dX3_pool_91 (fun _ _ _ h => False.elim h) (fun v_91tsd S_91tsd p_91tsd => ?_)
      obtain ⟨rfl, rfl⟩ := p_91tsd
      refine G.eq (show _ = ([.int (nI 0)] : List Value) from rfl) ?_
      exact g_ireturn X Y hr rfl ⟨Nat.le_of_ble_eq_true rfl, Nat.le_of_ble_eq_true rfl⟩ dX3_pool_94 (by unfold oPool; rw [if_pos ((ixb_nI (by omega)).mpr hp), if_neg hsw]; exact ⟨rfl, rfl⟩)
  · replace h_10 := bI_0.mp h_10
    refine g_aload_n X 0 rfl rfl dX3_pool_13 ?_
    refine g_iconst X (nI 1) (by first | rfl | decide) dX3_pool_14 ?_
    refine g_callV (st := []) X (sp_X3_fails _ _ _ m S (twf t 0 (nI 0)) hT (nI 1)) q3578 q3580 qs47 q119 q3581 ⟨rfl, (mm_npk 1 rfl (by decide +kernel))⟩ ⟨⟨Nat.le_of_ble_eq_true rfl, Nat.le_of_ble_eq_true rfl⟩, Nat.le_of_ble_eq_true rfl, Nat.le_of_ble_eq_true rfl⟩ mC_X3 (tK0 hT) rfl (Nat.le_of_ble_eq_true rfl) dX3_pool_15 (fun _ _ _ h => False.elim h) (fun v_15f S_15f p_15f => ?_)
    obtain ⟨rfl, rfl⟩ := p_15f
    refine G.eq (show _ = ([.int (nI 0)] : List Value) from rfl) ?_
    exact g_ireturn X Y hr rfl ⟨Nat.le_of_ble_eq_true rfl, Nat.le_of_ble_eq_true rfl⟩ dX3_pool_18 (by unfold oPool; rw [if_neg h_10]; exact ⟨rfl, rfl⟩)
set_option maxHeartbeats 4000000 in
set_option maxRecDepth 100000 in
theorem sp_X3_pearl (l : Launch) (D : Dg) (B : Nat) (m : Nat) (S : Mm) (t : Tw) (hT : twK B S m) (np : Nat) (hnp : t.2 1 1 = nI np) (hnp6 : np ≤ 6) (has : Nat → Nat) (hhas : ∀ p, p < np → t.2 1 (16 + 10 * p + 2) = nI (has p)) (hhas5 : ∀ p, p < np → has p ≤ 5) (x y : Int32) : Sp eI l D B yX3_pearl (ws_ yX3_pearl cX3_pearl 3 (some .int)) (rmL 3 0 0) [.ref m, .int x, .int y] (tw m S t) (fun v S' => v = (oPearl t np has x y).1 ∧ S' = tw m S ((oPearl t np has x y).2)) (fun _ _ _ => False) := by
  refine Sp.of cX3_pearl 3 (some .int) [(0, .ref m), (1, .int x), (2, .int y)] rfl (Nat.le_of_ble_eq_true rfl) rfl fun g X Y hr hnm hgl hgD hgB hex => ?_
  subst hgl hgD hgB
  refine g_aload_n X 0 rfl rfl dX3_pearl_0 ?_
  refine g_iconst X (nI 0) (by first | rfl | decide) dX3_pearl_1 ?_
  refine g_putV (S' := tw m S (twf t 0 (nI 0))) X mC_X3 0 (by decide) q3506 (mm_same.rf rfl) rfl (tK0 hT) (fun h => absurd h (by decide)) rfl rfl (.inl ⟨nI 0, rfl, rfl, tw_sI.symm⟩) dX3_pearl_2 ?_
  refine g_aload_n X 0 rfl rfl dX3_pearl_5 ?_
  refine g_iload_n X 1 rfl rfl dX3_pearl_6 ?_
  refine g_callV (st := []) X (sp_X3_isPool _ _ _ m S (twf t 0 (nI 0)) hT x np hnp (by omega)) q3602 q3604 qs52 q119 q3605 ⟨rfl, (mm_npk 1 rfl (by decide +kernel))⟩ ⟨⟨Nat.le_of_ble_eq_true rfl, Nat.le_of_ble_eq_true rfl⟩, Nat.le_of_ble_eq_true rfl, Nat.le_of_ble_eq_true rfl⟩ mC_X3 (tK0 hT) rfl (Nat.le_of_ble_eq_true rfl) dX3_pearl_7 (fun _ _ _ h => False.elim h) (fun v_7 S_7 p_7 => ?_)
  obtain ⟨rfl, rfl⟩ := p_7
  refine G.eq (show _ = ([.int (bI (ixb x np))] : List Value) from rfl) ?_
  refine g_if_ne X dX3_pearl_10 (tgt := 19) (by decide) (fun h_10 => ?_) (fun h_10 => ?_)
  · replace h_10 := bI_1.mp h_10
    obtain ⟨p, hp, rfl⟩ := ixb_of h_10
    refine g_aload_n X 0 rfl rfl dX3_pearl_19 ?_
    refine g_iload_n X 1 rfl rfl dX3_pearl_20 ?_
    refine g_iload_n X 2 rfl rfl dX3_pearl_21 ?_
    refine g_callV (st := []) X (sp_X3_isPlace _ _ _ m S (twf t 0 (nI 0)) hT p (by omega) y (has p) (hhas p hp) (by have := hhas5 p hp; omega)) q3630 q3632 qs57 q119 q3633 ⟨rfl, (mm_npk 2 rfl (by decide +kernel))⟩ ⟨⟨Nat.le_of_ble_eq_true rfl, Nat.le_of_ble_eq_true rfl⟩, Nat.le_of_ble_eq_true rfl, Nat.le_of_ble_eq_true rfl⟩ mC_X3 (tK0 hT) rfl (Nat.le_of_ble_eq_true rfl) dX3_pearl_22 (fun _ _ _ h => False.elim h) (fun v_22t S_22t p_22t => ?_)
    obtain ⟨rfl, rfl⟩ := p_22t
    refine G.eq (show _ = ([.int (bI (ixb y (has p)))] : List Value) from rfl) ?_
    refine g_if_eq X dX3_pearl_25 (tgt := 37) (by decide) (fun h_25t => ?_) (fun h_25t => ?_)
    · replace h_25t := bI_0.mp h_25t
      refine g_aload_n X 0 rfl rfl dX3_pearl_37 ?_
      refine g_iconst X (nI 2) (by first | rfl | decide) dX3_pearl_38 ?_
      refine g_callV (st := []) X (sp_X3_fails _ _ _ m S (twf t 0 (nI 0)) hT (nI 2)) q3578 q3580 qs47 q119 q3581 ⟨rfl, (mm_npk 1 rfl (by decide +kernel))⟩ ⟨⟨Nat.le_of_ble_eq_true rfl, Nat.le_of_ble_eq_true rfl⟩, Nat.le_of_ble_eq_true rfl, Nat.le_of_ble_eq_true rfl⟩ mC_X3 (tK0 hT) rfl (Nat.le_of_ble_eq_true rfl) dX3_pearl_39 (fun _ _ _ h => False.elim h) (fun v_39tt S_39tt p_39tt => ?_)
      obtain ⟨rfl, rfl⟩ := p_39tt
      refine G.eq (show _ = ([.int (nI 0)] : List Value) from rfl) ?_
      exact g_ireturn X Y hr rfl ⟨Nat.le_of_ble_eq_true rfl, Nat.le_of_ble_eq_true rfl⟩ dX3_pearl_42 (by unfold oPearl; rw [if_pos ((ixb_nI (by omega)).mpr hp), if_neg (by rw [cN_nI (by omega)]; exact h_25t)]; exact ⟨rfl, rfl⟩)
    · replace h_25t := bI_1.mp h_25t
      obtain ⟨k, hk, rfl⟩ := ixb_of h_25t
      refine g_aload_n X 0 rfl rfl dX3_pearl_28 ?_
      refine g_iload_n X 1 rfl rfl dX3_pearl_29 ?_
      refine g_iload_n X 2 rfl rfl dX3_pearl_30 ?_
      refine g_callV (st := []) X (sp_X3_sizeOf _ _ _ m S (twf t 0 (nI 0)) hT p k (by have := hhas5 p hp; omega)) q3634 q3636 qs58 q119 q3637 ⟨rfl, (mm_npk 2 rfl (by decide +kernel))⟩ ⟨⟨Nat.le_of_ble_eq_true rfl, Nat.le_of_ble_eq_true rfl⟩, Nat.le_of_ble_eq_true rfl, Nat.le_of_ble_eq_true rfl⟩ mC_X3 (tK0 hT) rfl (Nat.le_of_ble_eq_true rfl) dX3_pearl_31 (fun _ _ _ h => False.elim h) (fun v_31tf S_31tf p_31tf => ?_)
      obtain ⟨rfl, rfl⟩ := p_31tf
      refine G.eq (show _ = ([.int (t.2 1 (16 + 10 * p + 3 + k))] : List Value) from rfl) ?_
      refine g_goto X dX3_pearl_34 (tgt := 42) (by decide) ?_
      exact g_ireturn X Y hr rfl ⟨Nat.le_of_ble_eq_true rfl, Nat.le_of_ble_eq_true rfl⟩ dX3_pearl_42 (by unfold oPearl; rw [if_pos ((ixb_nI (by omega)).mpr hp), if_pos (by rw [cN_nI (by omega)]; exact (ixb_nI (by have := hhas5 p hp; omega)).mpr hk), cN_nI (n := p) (by omega), cN_nI (n := k) (by have := hhas5 p hp; omega)]; exact ⟨rfl, rfl⟩)
  · replace h_10 := bI_0.mp h_10
    refine g_aload_n X 0 rfl rfl dX3_pearl_13 ?_
    refine g_iconst X (nI 1) (by first | rfl | decide) dX3_pearl_14 ?_
    refine g_callV (st := []) X (sp_X3_fails _ _ _ m S (twf t 0 (nI 0)) hT (nI 1)) q3578 q3580 qs47 q119 q3581 ⟨rfl, (mm_npk 1 rfl (by decide +kernel))⟩ ⟨⟨Nat.le_of_ble_eq_true rfl, Nat.le_of_ble_eq_true rfl⟩, Nat.le_of_ble_eq_true rfl, Nat.le_of_ble_eq_true rfl⟩ mC_X3 (tK0 hT) rfl (Nat.le_of_ble_eq_true rfl) dX3_pearl_15 (fun _ _ _ h => False.elim h) (fun v_15f S_15f p_15f => ?_)
    obtain ⟨rfl, rfl⟩ := p_15f
    refine G.eq (show _ = ([.int (nI 0)] : List Value) from rfl) ?_
    exact g_ireturn X Y hr rfl ⟨Nat.le_of_ble_eq_true rfl, Nat.le_of_ble_eq_true rfl⟩ dX3_pearl_18 (by unfold oPearl; rw [if_neg h_10]; exact ⟨rfl, rfl⟩)
