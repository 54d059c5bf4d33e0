set_option maxHeartbeats 4000000 in
set_option maxRecDepth 100000 in
theorem sp_X3_thrown (l : Launch) (D : Dg) (B : Nat) (m : Nat) (S : Mm) (t : Tw) (hT : twK B S m)  : Sp eI l D B yX3_thrown (ws_ yX3_thrown cX3_thrown 1 (some .int)) (rmL 1 0 0) [.ref m] (tw m S t) (fun v S' => v = t.1 0 ∧ S' = tw m S t) (fun _ _ _ => False) := by
  refine Sp.of cX3_thrown 1 (some .int) [(0, .ref m)] rfl (Nat.le_of_ble_eq_true rfl) rfl fun g X Y hr hnm hgl hgD hgB hex => ?_
  subst hgl hgD hgB
  refine g_aload_n X 0 rfl rfl dX3_thrown_0 ?_
  refine g_getI (v := t.1 0) X mC_X3 0 (by decide) q3506 (mm_same.rf rfl) rfl (tK0 hT) tw_I dX3_thrown_1 ?_
  exact g_ireturn X Y hr rfl ⟨Nat.le_of_ble_eq_true rfl, Nat.le_of_ble_eq_true rfl⟩ dX3_thrown_4 (⟨rfl, rfl⟩)
set_option maxHeartbeats 4000000 in
set_option maxRecDepth 100000 in
theorem sp_X3_fails (l : Launch) (D : Dg) (B : Nat) (m : Nat) (S : Mm) (t : Tw) (hT : twK B S m) (x : Int32) : Sp eI l D B yX3_fails (ws_ yX3_fails cX3_fails 2 (some .int)) (rmL 1 0 0) [.ref m, .int x] (tw m S t) (fun v S' => v = nI 0 ∧ S' = tw m S (twf t 0 x)) (fun _ _ _ => False) := by
  refine Sp.of cX3_fails 2 (some .int) [(0, .ref m), (1, .int x)] rfl (Nat.le_of_ble_eq_true rfl) rfl fun g X Y hr hnm hgl hgD hgB hex => ?_
  subst hgl hgD hgB
  refine g_aload_n X 0 rfl rfl dX3_fails_0 ?_
  refine g_iload_n X 1 rfl rfl dX3_fails_1 ?_
  refine g_putV (S' := tw m S (twf t 0 x)) X mC_X3 0 (by decide) q3506 (mm_same.rf rfl) rfl (tK0 hT) (fun h => absurd h (by decide)) rfl rfl (.inl ⟨x, rfl, rfl, tw_sI.symm⟩) dX3_fails_2 ?_
  refine g_iconst X (nI 0) (by first | rfl | decide) dX3_fails_5 ?_
  exact g_ireturn X Y hr rfl ⟨Nat.le_of_ble_eq_true rfl, Nat.le_of_ble_eq_true rfl⟩ dX3_fails_6 (⟨rfl, rfl⟩)
set_option maxHeartbeats 4000000 in
set_option maxRecDepth 100000 in
theorem sp_X3_refuses (l : Launch) (D : Dg) (B : Nat) (m : Nat) (S : Mm) (t : Tw) (hT : twK B S m) (x y z : Int32) : Sp eI l D B yX3_refuses (ws_ yX3_refuses cX3_refuses 4 (some .int)) (rmL 2 0 0) [.ref m, .int x, .int y, .int z] (tw m S t) (fun v S' => v = nI 0 ∧ S' = tw m S (twf (twf (twf t 1 y) 2 z) 0 x)) (fun _ _ _ => False) := by
  refine Sp.of cX3_refuses 4 (some .int) [(0, .ref m), (1, .int x), (2, .int y), (3, .int z)] rfl (Nat.le_of_ble_eq_true rfl) rfl fun g X Y hr hnm hgl hgD hgB hex => ?_
  subst hgl hgD hgB
  refine g_aload_n X 0 rfl rfl dX3_refuses_0 ?_
  refine g_iload_n X 2 rfl rfl dX3_refuses_1 ?_
  refine g_putV (S' := tw m S (twf t 1 y)) X mC_X3 1 (by decide) q3507 (mm_same.rf rfl) rfl (tK0 hT) (fun h => absurd h (by decide)) rfl rfl (.inl ⟨y, rfl, rfl, tw_sI.symm⟩) dX3_refuses_2 ?_
  refine g_aload_n X 0 rfl rfl dX3_refuses_5 ?_
  refine g_iload_n X 3 rfl rfl dX3_refuses_6 ?_
  refine g_putV (S' := tw m S (twf (twf t 1 y) 2 z)) X mC_X3 2 (by decide) q3508 (mm_same.rf rfl) rfl (tK0 hT) (fun h => absurd h (by decide)) rfl rfl (.inl ⟨z, rfl, rfl, tw_sI.symm⟩) dX3_refuses_7 ?_
  refine g_aload_n X 0 rfl rfl dX3_refuses_10 ?_
  refine g_iload_n X 1 rfl rfl dX3_refuses_11 ?_
  refine g_callV (st := []) X (sp_X3_fails _ _ _ m S (twf (twf t 1 y) 2 z) hT x) q3578 q3580 qs47 q119 q3581 ⟨rfl, (mm_npk 1 rfl (by decide +kernel))⟩ ⟨⟨Nat.le_of_ble_eq_true rfl, Nat.le_of_ble_eq_true rfl⟩, Nat.le_of_ble_eq_true rfl, Nat.le_of_ble_eq_true rfl⟩ mC_X3 (tK0 hT) rfl (Nat.le_of_ble_eq_true rfl) dX3_refuses_12 (fun _ _ _ h => False.elim h) (fun v_12 S_12 p_12 => ?_)
  obtain ⟨rfl, rfl⟩ := p_12
  refine G.eq (show _ = ([.int (nI 0)] : List Value) from rfl) ?_
  exact g_ireturn X Y hr rfl ⟨Nat.le_of_ble_eq_true rfl, Nat.le_of_ble_eq_true rfl⟩ dX3_refuses_15 (⟨rfl, rfl⟩)
set_option maxHeartbeats 4000000 in
set_option maxRecDepth 100000 in
theorem sp_X3_isNot (l : Launch) (D : Dg) (B : Nat) (m : Nat) (S : Mm) (t : Tw) (hT : twK B S m) (x y z : Int32) : Sp eI l D B yX3_isNot (ws_ yX3_isNot cX3_isNot 4 (some .int)) (rmL 1 0 0) [.ref m, .int x, .int y, .int z] (tw m S t) (fun v S' => v = x ∧ S' = tw m S (twf (twf t 3 y) 4 z)) (fun _ _ _ => False) := by
  refine Sp.of cX3_isNot 4 (some .int) [(0, .ref m), (1, .int x), (2, .int y), (3, .int z)] rfl (Nat.le_of_ble_eq_true rfl) rfl fun g X Y hr hnm hgl hgD hgB hex => ?_
  subst hgl hgD hgB
  refine g_aload_n X 0 rfl rfl dX3_isNot_0 ?_
  refine g_iload_n X 2 rfl rfl dX3_isNot_1 ?_
  refine g_putV (S' := tw m S (twf t 3 y)) X mC_X3 3 (by decide) q3509 (mm_same.rf rfl) rfl (tK0 hT) (fun h => absurd h (by decide)) rfl rfl (.inl ⟨y, rfl, rfl, tw_sI.symm⟩) dX3_isNot_2 ?_
  refine g_aload_n X 0 rfl rfl dX3_isNot_5 ?_
  refine g_iload_n X 3 rfl rfl dX3_isNot_6 ?_
  refine g_putV (S' := tw m S (twf (twf t 3 y) 4 z)) X mC_X3 4 (by decide) q3510 (mm_same.rf rfl) rfl (tK0 hT) (fun h => absurd h (by decide)) rfl rfl (.inl ⟨z, rfl, rfl, tw_sI.symm⟩) dX3_isNot_7 ?_
  refine g_iload_n X 1 rfl rfl dX3_isNot_10 ?_
  exact g_ireturn X Y hr rfl ⟨Nat.le_of_ble_eq_true rfl, Nat.le_of_ble_eq_true rfl⟩ dX3_isNot_11 (⟨rfl, rfl⟩)
set_option maxHeartbeats 4000000 in
set_option maxRecDepth 100000 in
theorem sp_X3_failsNow (l : Launch) (D : Dg) (B : Nat) (m : Nat) (S : Mm) (t : Tw) (hT : twK B S m) (x : Int32) : Sp eI l D B yX3_failsNow (ws_ yX3_failsNow cX3_failsNow 2 (some .int)) (rmL 3 0 0) [.ref m, .int x] (tw m S t) (fun v S' => v = nI 0 ∧ S' = tw m S (if 0 < t.1 3 then twf (twf (twf t 1 (t.1 3)) 2 (t.1 4)) 0 x else twf t 0 x)) (fun _ _ _ => False) := by
  refine Sp.of cX3_failsNow 2 (some .int) [(0, .ref m), (1, .int x)] rfl (Nat.le_of_ble_eq_true rfl) rfl fun g X Y hr hnm hgl hgD hgB hex => ?_
  subst hgl hgD hgB
  refine g_aload_n X 0 rfl rfl dX3_failsNow_0 ?_
  refine g_getI (v := t.1 3) X mC_X3 3 (by decide) q3509 (mm_same.rf rfl) rfl (tK0 hT) tw_I dX3_failsNow_1 ?_
  refine g_if_le X dX3_failsNow_4 (tgt := 23) (by decide) (fun h_4 => ?_) (fun h_4 => ?_)
  · refine g_aload_n X 0 rfl rfl dX3_failsNow_23 ?_
    refine g_iload_n X 1 rfl rfl dX3_failsNow_24 ?_
    refine g_callV (st := []) X (sp_X3_fails _ _ _ m S t hT x) q3578 q3580 qs47 q119 q3581 ⟨rfl, (mm_npk 1 rfl (by decide +kernel))⟩ ⟨⟨Nat.le_of_ble_eq_true rfl, Nat.le_of_ble_eq_true rfl⟩, Nat.le_of_ble_eq_true rfl, Nat.le_of_ble_eq_true rfl⟩ mC_X3 (tK0 hT) rfl (Nat.le_of_ble_eq_true rfl) dX3_failsNow_25 (fun _ _ _ h => False.elim h) (fun v_25t S_25t p_25t => ?_)
    obtain ⟨rfl, rfl⟩ := p_25t
    refine G.eq (show _ = ([.int (nI 0)] : List Value) from rfl) ?_
    exact g_ireturn X Y hr rfl ⟨Nat.le_of_ble_eq_true rfl, Nat.le_of_ble_eq_true rfl⟩ dX3_failsNow_28 (⟨rfl, by rw [if_neg (Int32.not_lt.mpr h_4)]⟩)
  · refine g_aload_n X 0 rfl rfl dX3_failsNow_7 ?_
    refine g_iload_n X 1 rfl rfl dX3_failsNow_8 ?_
    refine g_aload_n X 0 rfl rfl dX3_failsNow_9 ?_
    refine g_getI (v := t.1 3) X mC_X3 3 (by decide) q3509 (mm_same.rf rfl) rfl (tK0 hT) tw_I dX3_failsNow_10 ?_
    refine g_aload_n X 0 rfl rfl dX3_failsNow_13 ?_
    refine g_getI (v := t.1 4) X mC_X3 4 (by decide) q3510 (mm_same.rf rfl) rfl (tK0 hT) tw_I dX3_failsNow_14 ?_
    refine g_callV (st := []) X (sp_X3_refuses _ _ _ m S t hT x (t.1 3) (t.1 4)) q3582 q3584 qs48 q119 q3585 ⟨rfl, (mm_npk 3 rfl (by decide +kernel))⟩ ⟨⟨Nat.le_of_ble_eq_true rfl, Nat.le_of_ble_eq_true rfl⟩, Nat.le_of_ble_eq_true rfl, Nat.le_of_ble_eq_true rfl⟩ mC_X3 (tK0 hT) rfl (Nat.le_of_ble_eq_true rfl) dX3_failsNow_17 (fun _ _ _ h => False.elim h) (fun v_17f S_17f p_17f => ?_)
    obtain ⟨rfl, rfl⟩ := p_17f
    refine G.eq (show _ = ([.int (nI 0)] : List Value) from rfl) ?_
    refine g_goto X dX3_failsNow_20 (tgt := 28) (by decide) ?_
    exact g_ireturn X Y hr rfl ⟨Nat.le_of_ble_eq_true rfl, Nat.le_of_ble_eq_true rfl⟩ dX3_failsNow_28 (⟨rfl, by rw [if_pos (Int32.not_le.mp h_4)]⟩)
set_option maxHeartbeats 4000000 in
set_option maxRecDepth 100000 in
theorem sp_X3_isBetween (l : Launch) (D : Dg) (B : Nat) (S : Mm) (x lo hi : Int32) : Sp eI l D B yX3_isBetween (ws_ yX3_isBetween cX3_isBetween 3 (some .boolean)) (rmL 1 0 0) [.int x, .int lo, .int hi] S (fun v S' => v = bI (lo ≤ x ∧ x ≤ hi) ∧ S' = S) (fun _ _ _ => False) := by
  refine Sp.of cX3_isBetween 3 (some .boolean) [(0, .int x), (1, .int lo), (2, .int hi)] rfl (Nat.le_of_ble_eq_true rfl) rfl fun g X Y hr hnm hgl hgD hgB hex => ?_
  subst hgl hgD hgB
  refine g_iload_n X 1 rfl rfl dX3_isBetween_0 ?_
  refine g_iload_n X 0 rfl rfl dX3_isBetween_1 ?_
  refine g_icmp_gt X dX3_isBetween_2 (tgt := 14) (by decide) (fun h_2 => ?_) (fun h_2 => ?_)
  · refine g_iconst X (nI 0) (by first | rfl | decide) dX3_isBetween_14 ?_
    exact g_ireturn X Y hr rfl ⟨Nat.le_of_ble_eq_true rfl, Nat.le_of_ble_eq_true rfl⟩ dX3_isBetween_15 (⟨(bI_f (fun z => absurd z.1 (Int32.not_le.mpr h_2))).symm, rfl⟩)
  · refine g_iload_n X 0 rfl rfl dX3_isBetween_5 ?_
    refine g_iload_n X 2 rfl rfl dX3_isBetween_6 ?_
    refine g_icmp_gt X dX3_isBetween_7 (tgt := 14) (by decide) (fun h_7f => ?_) (fun h_7f => ?_)
    · refine g_iconst X (nI 0) (by first | rfl | decide) dX3_isBetween_14 ?_
      exact g_ireturn X Y hr rfl ⟨Nat.le_of_ble_eq_true rfl, Nat.le_of_ble_eq_true rfl⟩ dX3_isBetween_15 (⟨(bI_f (fun z => absurd z.2 (Int32.not_le.mpr h_7f))).symm, rfl⟩)
    · refine g_iconst X (nI 1) (by first | rfl | decide) dX3_isBetween_10 ?_
      refine g_goto X dX3_isBetween_11 (tgt := 15) (by decide) ?_
      exact g_ireturn X Y hr rfl ⟨Nat.le_of_ble_eq_true rfl, Nat.le_of_ble_eq_true rfl⟩ dX3_isBetween_15 (⟨(bI_t ⟨Int32.not_lt.mp h_2, Int32.not_lt.mp h_7f⟩).symm, rfl⟩)
set_option maxHeartbeats 4000000 in
set_option maxRecDepth 100000 in
theorem sp_X3_thinks (l : Launch) (D : Dg) (B : Nat) (m : Nat) (S : Mm) (t : Tw) (hT : twK B S m)  : Sp eV l D B yX3_thinks (ws_ yX3_thinks cX3_thinks 2 none) (rmL 1 0 0) [.ref m] (tw m S t) (fun v S' => S' = tw m S (tws t 4 (cp (t.2 1) (t.2 4) 132))) (fun _ _ _ => False) := by
  refine Sp.of cX3_thinks 2 none [(0, .ref m)] rfl (Nat.le_of_ble_eq_true rfl) rfl fun g X Y hr hnm hgl hgD hgB hex => ?_
  subst hgl hgD hgB
  refine g_iconst X (nI 0) (by first | rfl | decide) dX3_thinks_0 ?_
  refine g_istore_n (L' := [(1, .int (nI 0)), (0, .ref m)]) X (by decide) rfl rfl dX3_thinks_1 ?_
  have key_2 : ∀ (k9 i : Nat) , 132 < i + k9 → i ≤ 132 → G g 0 0 (tw m S (tws t 4 (cp (t.2 1) (t.2 4) i))) 2 [(1, .int (nI i)), (0, .ref m)] [] := by
    intro k9
    induction k9 with
    | zero => intro i  a1 a2; omega
    | succ k9 ih_2 =>
      intro i  a1 a2
      refine g_iload_n X 0 rfl rfl dX3_thinks_2 ?_
      refine g_sipush X (nI 132) (by first | rfl | decide) dX3_thinks_3 ?_
      refine g_icmp_ge X dX3_thinks_6 (tgt := 27) (by decide) (fun h_6L => ?_) (fun h_6L => ?_)
      · replace h_6L := (nI_leI (by omega) (by omega)).mp h_6L
        exact g_return X Y hr ⟨Nat.le_of_ble_eq_true rfl, Nat.le_of_ble_eq_true rfl⟩ dX3_thinks_27 (by
            have e : i = 132 := by omega
            subst e; rfl)
      · replace h_6L := mt (nI_leI (by omega) (by omega)).mpr h_6L
        refine g_aload_n X 1 rfl rfl dX3_thinks_9 ?_
        refine g_getR (v := some (m + 4)) X mC_X3 8 (by decide) q3514 (mm_same.rf rfl) rfl (tK0 hT) (tR4 hT) dX3_thinks_10 ?_
        refine g_iload_n X 0 rfl rfl dX3_thinks_13 ?_
        refine g_aload_n X 1 rfl rfl dX3_thinks_14 ?_
        refine g_getR (v := some (m + 1)) X mC_X3 5 (by decide) q3511 (mm_same.rf rfl) rfl (tK0 hT) (tR1 hT) dX3_thinks_15 ?_
        refine g_iload_n X 0 rfl rfl dX3_thinks_18 ?_
        refine g_iald (v := t.2 1 i) X (mm_ix.of rfl (by omega) (by omega)) (tK1 hT) (tw_A (by decide)) dX3_thinks_19 ?_
        refine g_iast (v := t.2 1 i) (S' := tw m S (tws (tws t 4 (cp (t.2 1) (t.2 4) i)) 4 (upd (cp (t.2 1) (t.2 4) i) i (t.2 1 i)))) X (mm_ix.of rfl (by omega) (by omega)) (tK4 hT) (tB4 hT) rfl (tw_sA (by decide)) dX3_thinks_20 ?_
        refine g_iinc (L' := [(1, .int (nI (i + 1))), (0, .ref m)]) X 0 (nI (i + 1)) rfl (nI_1 _) (by decide) rfl dX3_thinks_21 ?_
        refine g_goto X dX3_thinks_24 (tgt := 2) (by decide) ?_
        refine G.mem (S' := tw m S (tws t 4 (cp (t.2 1) (t.2 4) (i + 1)))) (by rw [tws_tws, cp_s]) ?_
        exact ih_2 (i + 1) (by omega) (by omega)
  refine G.mem (S' := tw m S (tws t 4 (cp (t.2 1) (t.2 4) 0))) (by rw [cp_0, tws_self]) ?_
  skip
  exact key_2 (132 + 1) 0  (by omega) (by omega)
set_option maxHeartbeats 4000000 in
set_option maxRecDepth 100000 in
theorem sp_X3_forgets (l : Launch) (D : Dg) (B : Nat) (m : Nat) (S : Mm) (t : Tw) (hT : twK B S m)  : Sp eV l D B yX3_forgets (ws_ yX3_forgets cX3_forgets 2 none) (rmL 1 0 0) [.ref m] (tw m S t) (fun v S' => S' = tw m S (tws t 1 (cp (t.2 4) (t.2 1) 132))) (fun _ _ _ => False) := by
  refine Sp.of cX3_forgets 2 none [(0, .ref m)] rfl (Nat.le_of_ble_eq_true rfl) rfl fun g X Y hr hnm hgl hgD hgB hex => ?_
  subst hgl hgD hgB
  refine g_iconst X (nI 0) (by first | rfl | decide) dX3_forgets_0 ?_
  refine g_istore_n (L' := [(1, .int (nI 0)), (0, .ref m)]) X (by decide) rfl rfl dX3_forgets_1 ?_
  have key_2 : ∀ (k9 i : Nat) , 132 < i + k9 → i ≤ 132 → G g 0 0 (tw m S (tws t 1 (cp (t.2 4) (t.2 1) i))) 2 [(1, .int (nI i)), (0, .ref m)] [] := by
    intro k9
    induction k9 with
    | zero => intro i  a1 a2; omega
    | succ k9 ih_2 =>
      intro i  a1 a2
      refine g_iload_n X 0 rfl rfl dX3_forgets_2 ?_
      refine g_sipush X (nI 132) (by first | rfl | decide) dX3_forgets_3 ?_
      refine g_icmp_ge X dX3_forgets_6 (tgt := 27) (by decide) (fun h_6L => ?_) (fun h_6L => ?_)
      · replace h_6L := (nI_leI (by omega) (by omega)).mp h_6L
        exact g_return X Y hr ⟨Nat.le_of_ble_eq_true rfl, Nat.le_of_ble_eq_true rfl⟩ dX3_forgets_27 (by
            have e : i = 132 := by omega
            subst e; rfl)
      · replace h_6L := mt (nI_leI (by omega) (by omega)).mpr h_6L
        refine g_aload_n X 1 rfl rfl dX3_forgets_9 ?_
        refine g_getR (v := some (m + 1)) X mC_X3 5 (by decide) q3511 (mm_same.rf rfl) rfl (tK0 hT) (tR1 hT) dX3_forgets_10 ?_
        refine g_iload_n X 0 rfl rfl dX3_forgets_13 ?_
        refine g_aload_n X 1 rfl rfl dX3_forgets_14 ?_
        refine g_getR (v := some (m + 4)) X mC_X3 8 (by decide) q3514 (mm_same.rf rfl) rfl (tK0 hT) (tR4 hT) dX3_forgets_15 ?_
        refine g_iload_n X 0 rfl rfl dX3_forgets_18 ?_
        refine g_iald (v := t.2 4 i) X (mm_ix.of rfl (by omega) (by omega)) (tK4 hT) (tw_A (by decide)) dX3_forgets_19 ?_
        refine g_iast (v := t.2 4 i) (S' := tw m S (tws (tws t 1 (cp (t.2 4) (t.2 1) i)) 1 (upd (cp (t.2 4) (t.2 1) i) i (t.2 4 i)))) X (mm_ix.of rfl (by omega) (by omega)) (tK1 hT) (tB1 hT) rfl (tw_sA (by decide)) dX3_forgets_20 ?_
        refine g_iinc (L' := [(1, .int (nI (i + 1))), (0, .ref m)]) X 0 (nI (i + 1)) rfl (nI_1 _) (by decide) rfl dX3_forgets_21 ?_
        refine g_goto X dX3_forgets_24 (tgt := 2) (by decide) ?_
        refine G.mem (S' := tw m S (tws t 1 (cp (t.2 4) (t.2 1) (i + 1)))) (by rw [tws_tws, cp_s]) ?_
        exact ih_2 (i + 1) (by omega) (by omega)
  refine G.mem (S' := tw m S (tws t 1 (cp (t.2 4) (t.2 1) 0))) (by rw [cp_0, tws_self]) ?_
  skip
  exact key_2 (132 + 1) 0  (by omega) (by omega)
