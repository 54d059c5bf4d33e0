def rDr0 (w : Nat → Int32) (s p : Nat) : Nat → Int32 := upd (upd (upd w 9 (w 9 + nI 1)) (16 + 10 * p + 8) (w (16 + 10 * p + 8) + nI 1)) (76 + 5 * s + 3) (w (76 + 5 * s + 3) + nI 1)
/-- a drip of the stone s into the pool p: the water -/
def rDr1 (w : Nat → Int32) (s p : Nat) : Nat → Int32 :=
  if w (16 + 10 * p + 1) < w (16 + 10 * p + 0) then upd (rDr0 w s p) (16 + 10 * p + 1) (w (16 + 10 * p + 1) + nI 1) else upd (upd (rDr0 w s p) (16 + 10 * p + 9) (w (16 + 10 * p + 9) + nI 1)) 10 (w 10 + nI 1)
/-- the smallest pearl -/
def rDr2 (w : Nat → Int32) (p q : Nat) : Nat → Int32 :=
  if chg w p q = 0 then w else match sm (szs w p) q with
    | none => w
    | some k => upd w (16 + 10 * p + 3 + k) (w (16 + 10 * p + 3 + k) + chg w p q)
/-- the counts, and when the stone drips next -/
def rDr3 (w : Nat → Int32) (s : Nat) (by_ : Int32) : Nat → Int32 :=
  upd (upd (upd w 12 (w 12 + bI (0 < by_))) 13 (w 13 + bI (by_ < 0))) (76 + 5 * s + 4) (w 0 + w (76 + 5 * s + 1) + nI 2 * w (76 + 5 * s + 2))
def rDrips (w : Nat → Int32) (s p q : Nat) : Nat → Int32 := rDr3 (rDr2 (rDr1 w s p) p q) s (chg (rDr1 w s p) p q)
theorem rDr1_2 {w : Nat → Int32} {s p p' : Nat} (hp : p < 6) (hp' : p' < 6) : rDr1 w s p (16 + 10 * p' + 2) = w (16 + 10 * p' + 2) := by
  unfold rDr1 rDr0
  by_cases h : w (16 + 10 * p + 1) < w (16 + 10 * p + 0)
  · rw [if_pos h, pk_un (by omega), pk_un (by omega), pk_un (by omega), pk_un (by omega)]
  · rw [if_neg h, pk_un (by omega), pk_un (by omega), pk_un (by omega), pk_un (by omega), pk_un (by omega)]
theorem chg_some {w : Nat → Int32} {p q : Nat} (h : ¬ chg w p q = 0) : ∃ k, sm (szs w p) q = some k := by
  cases e : sm (szs w p) q with
  | some k => exact ⟨k, rfl⟩
  | none => exact absurd (show chg w p q = 0 by unfold chg; rw [e]; rfl) h
set_option maxHeartbeats 4000000 in
set_option maxRecDepth 100000 in
theorem sp_X3_drips (l : Launch) (D : Dg) (B : Nat) (m : Nat) (S : Mm) (t : Tw) (hT : twK B S m) (s : Nat) (hs : s < 8) (p q : Nat) (hp : p < 6) (hb : t.2 1 (76 + 5 * s + 0) = nI p) (hq : t.2 1 (16 + 10 * p + 2) = nI q) (hq5 : q ≤ 5) : Sp eV l D B yX3_drips (ws_ yX3_drips cX3_drips 4 none) (rmL 4 0 0) [.ref m, .int (nI s)] (tw m S t) (fun v S' => S' = tw m S (tws t 1 (rDrips (t.2 1) s p q))) (fun _ _ _ => False) := by
  refine Sp.of cX3_drips 4 none [(0, .ref m), (1, .int (nI s))] rfl (Nat.le_of_ble_eq_true rfl) rfl fun g X Y hr hnm hgl hgD hgB hex => ?_
  subst hgl hgD hgB
  refine g_aload_n X 0 rfl rfl dX3_drips_0 ?_
  refine g_iload_n X 1 rfl rfl dX3_drips_1 ?_
  refine g_iconst X (nI 0) (by first | rfl | decide) dX3_drips_2 ?_
  refine g_callV (st := []) X (sp_X3_ofStone _ _ _ m S t hT s 0 (by omega)) q3614 q3616 qs55 q119 q3617 ⟨rfl, (mm_npk 2 rfl (by decide +kernel))⟩ ⟨⟨Nat.le_of_ble_eq_true rfl, Nat.le_of_ble_eq_true rfl⟩, Nat.le_of_ble_eq_true rfl, Nat.le_of_ble_eq_true rfl⟩ mC_X3 (tK0 hT) rfl (Nat.le_of_ble_eq_true rfl) dX3_drips_3 (fun _ _ _ h => False.elim h) (fun v_3 S_3 p_3 => ?_)
  obtain ⟨rfl, rfl⟩ := p_3
  refine G.eq (show _ = ([.int (nI p)] : List Value) by rw [show t.2 1 (76 + 5 * s + 0) = nI p from (show t.2 1 (76 + 5 * s + 0) = nI p from hb)]; rfl) ?_
  refine g_istore_n (L' := [(2, .int (nI p)), (0, .ref m), (1, .int (nI s))]) X (by decide) rfl rfl dX3_drips_6 ?_
  refine g_aload_n X 1 rfl rfl dX3_drips_7 ?_
  refine g_getR (v := some (m + 1)) X mC_X3 5 (by decide) q3511 (mm_same.rf rfl) rfl (tK0 hT) (tR1 hT) dX3_drips_8 ?_
  refine g_bipush X (nI 9) (by first | rfl | decide) dX3_drips_11 ?_
  refine g_dup2 X rfl rfl dX3_drips_13 ?_
  refine g_iald (v := t.2 1 9) X (mm_ix.of rfl (by omega) (by omega)) (tK1 hT) (tw_A (by decide)) dX3_drips_14 ?_
  refine g_iconst X (nI 1) (by first | rfl | decide) dX3_drips_15 ?_
  refine g_iadd X dX3_drips_16 ?_
  refine g_iast (v := (t.2 1 9) + (nI 1)) (S' := tw m S (tws t 1 (upd (t.2 1) 9 ((t.2 1 9) + (nI 1))))) X (mm_ix.of rfl (by omega) (by omega)) (tK1 hT) (tB1 hT) rfl (tw_sA (by decide)) dX3_drips_17 ?_
  refine g_aload_n X 1 rfl rfl dX3_drips_18 ?_
  refine g_iload_n X 0 rfl rfl dX3_drips_19 ?_
  refine g_bipush X (nI 8) (by first | rfl | decide) dX3_drips_20 ?_
  refine g_iconst X (nI 1) (by first | rfl | decide) dX3_drips_22 ?_
  refine g_callV (st := []) X (sp_X3_addsPool _ _ _ m S (tws t 1 (upd (t.2 1) 9 ((t.2 1 9) + (nI 1)))) hT p 8 (by omega) (nI 1)) q3622 q3624 qs56 q119 q3625 ⟨rfl, (mm_npk 3 rfl (by decide +kernel))⟩ ⟨⟨Nat.le_of_ble_eq_true rfl, Nat.le_of_ble_eq_true rfl⟩, Nat.le_of_ble_eq_true rfl, Nat.le_of_ble_eq_true rfl⟩ mC_X3 (tK0 hT) rfl (Nat.le_of_ble_eq_true rfl) dX3_drips_23 (fun _ _ _ h => False.elim h) (fun v_23 S_23 p_23 => ?_)
  obtain rfl := p_23
  refine G.mem (S' := tw m S (tws t 1 (upd (upd (t.2 1) 9 ((t.2 1 9) + (nI 1))) (16 + 10 * p + 8) (t.2 1 (16 + 10 * p + 8) + nI 1)))) (by rw [show (tws t 1 (upd (t.2 1) 9 ((t.2 1 9) + (nI 1)))).2 1 (16 + 10 * p + 8) = t.2 1 (16 + 10 * p + 8) from (show (upd (t.2 1) 9 ((t.2 1 9) + (nI 1))) (16 + 10 * p + 8) = t.2 1 (16 + 10 * p + 8) from (pk_un (by omega)))]; exact congrArg (tw m S) tws_tws) ?_
  refine G.eq (show _ = ([] : List Value) from rfl) ?_
  refine g_aload_n X 1 rfl rfl dX3_drips_26 ?_
  refine g_iload_n X 2 rfl rfl dX3_drips_27 ?_
  refine g_iconst X (nI 3) (by first | rfl | decide) dX3_drips_28 ?_
  refine g_aload_n X 1 rfl rfl dX3_drips_29 ?_
  refine g_iload_n X 2 rfl rfl dX3_drips_30 ?_
  refine g_iconst X (nI 3) (by first | rfl | decide) dX3_drips_31 ?_
  refine g_callV (st := [.int (nI 3), .int (nI s), .ref m]) X (sp_X3_ofStone _ _ _ m S (tws t 1 (upd (upd (t.2 1) 9 ((t.2 1 9) + (nI 1))) (16 + 10 * p + 8) (t.2 1 (16 + 10 * p + 8) + nI 1))) hT s 3 (by omega)) q3614 q3616 qs55 q119 q3617 ⟨rfl, (mm_npk 2 rfl (by decide +kernel))⟩ ⟨⟨Nat.le_of_ble_eq_true rfl, Nat.le_of_ble_eq_true rfl⟩, Nat.le_of_ble_eq_true rfl, Nat.le_of_ble_eq_true rfl⟩ mC_X3 (tK0 hT) rfl (Nat.le_of_ble_eq_true rfl) dX3_drips_32 (fun _ _ _ h => False.elim h) (fun v_32 S_32 p_32 => ?_)
  obtain ⟨rfl, rfl⟩ := p_32
  refine G.eq (show _ = ([.int (t.2 1 (76 + 5 * s + 3)), .int (nI 3), .int (nI s), .ref m] : List Value) by rw [show (tws t 1 (upd (upd (t.2 1) 9 ((t.2 1 9) + (nI 1))) (16 + 10 * p + 8) (t.2 1 (16 + 10 * p + 8) + nI 1))).2 1 (76 + 5 * s + 3) = t.2 1 (76 + 5 * s + 3) from (show (upd (upd (t.2 1) 9 ((t.2 1 9) + (nI 1))) (16 + 10 * p + 8) (t.2 1 (16 + 10 * p + 8) + nI 1)) (76 + 5 * s + 3) = t.2 1 (76 + 5 * s + 3) from ((pk_un (by omega)).trans (pk_un (by omega))))]; rfl) ?_
  refine g_iconst X (nI 1) (by first | rfl | decide) dX3_drips_35 ?_
  refine g_iadd X dX3_drips_36 ?_
  refine g_callV (st := []) X (sp_X3_setsStone _ _ _ m S (tws t 1 (upd (upd (t.2 1) 9 ((t.2 1 9) + (nI 1))) (16 + 10 * p + 8) (t.2 1 (16 + 10 * p + 8) + nI 1))) hT s 3 (by omega) (t.2 1 (76 + 5 * s + 3) + nI 1)) q3654 q3656 qs60 q119 q3657 ⟨rfl, (mm_npk 3 rfl (by decide +kernel))⟩ ⟨⟨Nat.le_of_ble_eq_true rfl, Nat.le_of_ble_eq_true rfl⟩, Nat.le_of_ble_eq_true rfl, Nat.le_of_ble_eq_true rfl⟩ mC_X3 (tK0 hT) rfl (Nat.le_of_ble_eq_true rfl) dX3_drips_37 (fun _ _ _ h => False.elim h) (fun v_37 S_37 p_37 => ?_)
  obtain rfl := p_37
  refine G.mem (S' := tw m S (tws t 1 (upd (upd (upd (t.2 1) 9 ((t.2 1 9) + (nI 1))) (16 + 10 * p + 8) (t.2 1 (16 + 10 * p + 8) + nI 1)) (76 + 5 * s + 3) (t.2 1 (76 + 5 * s + 3) + nI 1)))) (congrArg (tw m S) tws_tws) ?_
  refine G.eq (show _ = ([] : List Value) from rfl) ?_
  refine g_aload_n X 1 rfl rfl dX3_drips_40 ?_
  refine g_iload_n X 0 rfl rfl dX3_drips_41 ?_
  refine g_iconst X (nI 1) (by first | rfl | decide) dX3_drips_42 ?_
  refine g_callV (st := []) X (sp_X3_ofPool _ _ _ m S (tws t 1 (upd (upd (upd (t.2 1) 9 ((t.2 1 9) + (nI 1))) (16 + 10 * p + 8) (t.2 1 (16 + 10 * p + 8) + nI 1)) (76 + 5 * s + 3) (t.2 1 (76 + 5 * s + 3) + nI 1))) hT p 1 (by omega)) q3606 q3608 qs53 q119 q3609 ⟨rfl, (mm_npk 2 rfl (by decide +kernel))⟩ ⟨⟨Nat.le_of_ble_eq_true rfl, Nat.le_of_ble_eq_true rfl⟩, Nat.le_of_ble_eq_true rfl, Nat.le_of_ble_eq_true rfl⟩ mC_X3 (tK0 hT) rfl (Nat.le_of_ble_eq_true rfl) dX3_drips_43 (fun _ _ _ h => False.elim h) (fun v_43 S_43 p_43 => ?_)
  obtain ⟨rfl, rfl⟩ := p_43
  refine G.eq (show _ = ([.int (t.2 1 (16 + 10 * p + 1))] : List Value) by rw [show (tws t 1 (upd (upd (upd (t.2 1) 9 ((t.2 1 9) + (nI 1))) (16 + 10 * p + 8) (t.2 1 (16 + 10 * p + 8) + nI 1)) (76 + 5 * s + 3) (t.2 1 (76 + 5 * s + 3) + nI 1))).2 1 (16 + 10 * p + 1) = t.2 1 (16 + 10 * p + 1) from (show (upd (upd (upd (t.2 1) 9 ((t.2 1 9) + (nI 1))) (16 + 10 * p + 8) (t.2 1 (16 + 10 * p + 8) + nI 1)) (76 + 5 * s + 3) (t.2 1 (76 + 5 * s + 3) + nI 1)) (16 + 10 * p + 1) = t.2 1 (16 + 10 * p + 1) from ((pk_un (by omega)).trans ((pk_un (by omega)).trans (pk_un (by omega)))))]; rfl) ?_
  refine g_aload_n X 1 rfl rfl dX3_drips_46 ?_
  refine g_iload_n X 0 rfl rfl dX3_drips_47 ?_
  refine g_iconst X (nI 0) (by first | rfl | decide) dX3_drips_48 ?_
  refine g_callV (st := [.int (t.2 1 (16 + 10 * p + 1))]) X (sp_X3_ofPool _ _ _ m S (tws t 1 (upd (upd (upd (t.2 1) 9 ((t.2 1 9) + (nI 1))) (16 + 10 * p + 8) (t.2 1 (16 + 10 * p + 8) + nI 1)) (76 + 5 * s + 3) (t.2 1 (76 + 5 * s + 3) + nI 1))) hT p 0 (by omega)) q3606 q3608 qs53 q119 q3609 ⟨rfl, (mm_npk 2 rfl (by decide +kernel))⟩ ⟨⟨Nat.le_of_ble_eq_true rfl, Nat.le_of_ble_eq_true rfl⟩, Nat.le_of_ble_eq_true rfl, Nat.le_of_ble_eq_true rfl⟩ mC_X3 (tK0 hT) rfl (Nat.le_of_ble_eq_true rfl) dX3_drips_49 (fun _ _ _ h => False.elim h) (fun v_49 S_49 p_49 => ?_)
  obtain ⟨rfl, rfl⟩ := p_49
  refine G.eq (show _ = ([.int (t.2 1 (16 + 10 * p + 0)), .int (t.2 1 (16 + 10 * p + 1))] : List Value) by rw [show (tws t 1 (upd (upd (upd (t.2 1) 9 ((t.2 1 9) + (nI 1))) (16 + 10 * p + 8) (t.2 1 (16 + 10 * p + 8) + nI 1)) (76 + 5 * s + 3) (t.2 1 (76 + 5 * s + 3) + nI 1))).2 1 (16 + 10 * p + 0) = t.2 1 (16 + 10 * p + 0) from (show (upd (upd (upd (t.2 1) 9 ((t.2 1 9) + (nI 1))) (16 + 10 * p + 8) (t.2 1 (16 + 10 * p + 8) + nI 1)) (76 + 5 * s + 3) (t.2 1 (76 + 5 * s + 3) + nI 1)) (16 + 10 * p + 0) = t.2 1 (16 + 10 * p + 0) from ((pk_un (by omega)).trans ((pk_un (by omega)).trans (pk_un (by omega)))))]; rfl) ?_
  have jw_ : G g 0 0 (tw m S (tws t 1 (rDr1 (t.2 1) s p))) 84 [(2, .int (nI p)), (1, .int (nI s)), (0, .ref m)] [] := by
    refine g_aload_n X 2 rfl rfl dX3_drips_84 ?_
    refine g_iload_n X 0 rfl rfl dX3_drips_85 ?_
    refine g_callV (st := []) X (sp_X3_changeOf _ _ _ m S (tws t 1 (rDr1 (t.2 1) s p)) hT p q hp (show rDr1 (t.2 1) s p (16 + 10 * p + 2) = nI q from (rDr1_2 hp hp).trans hq) hq5) q3806 q3808 qs86 q119 q3809 ⟨rfl, (mm_npk 1 rfl (by decide +kernel))⟩ ⟨⟨Nat.le_of_ble_eq_true rfl, Nat.le_of_ble_eq_true rfl⟩, Nat.le_of_ble_eq_true rfl, Nat.le_of_ble_eq_true rfl⟩ mC_X3 (tK0 hT) rfl (Nat.le_of_ble_eq_true rfl) dX3_drips_86 (fun _ _ _ h => False.elim h) (fun v_86J S_86J p_86J => ?_)
    obtain ⟨rfl, rfl⟩ := p_86J
    refine G.eq (show _ = ([.int (chg (rDr1 (t.2 1) s p) p q)] : List Value) from rfl) ?_
    refine g_istore_n (L' := [(3, .int (chg (rDr1 (t.2 1) s p) p q)), (2, .int (nI p)), (1, .int (nI s)), (0, .ref m)]) X (by decide) rfl rfl dX3_drips_89 ?_
    have jx_J : G g 0 0 (tw m S (tws t 1 (rDr2 (rDr1 (t.2 1) s p) p q))) 118 [(3, .int (chg (rDr1 (t.2 1) s p) p q)), (2, .int (nI p)), (1, .int (nI s)), (0, .ref m)] [] := by
      refine g_aload_n X 3 rfl rfl dX3_drips_118 ?_
      refine g_getR (v := some (m + 1)) X mC_X3 5 (by decide) q3511 (mm_same.rf rfl) rfl (tK0 hT) (tR1 hT) dX3_drips_119 ?_
      refine g_bipush X (nI 12) (by first | rfl | decide) dX3_drips_122 ?_
      refine g_dup2 X rfl rfl dX3_drips_124 ?_
      refine g_iald (v := (rDr2 (rDr1 (t.2 1) s p) p q) 12) X (mm_ix.of rfl (by omega) (by omega)) (tK1 hT) (tw_A (by decide)) dX3_drips_125 ?_
      refine g_iload_n X 0 rfl rfl dX3_drips_126 ?_
      refine g_if_le X dX3_drips_127 (tgt := 134) (by decide) (fun h_127JK => ?_) (fun h_127JK => ?_)
      · refine g_iconst X (nI 0) (by first | rfl | decide) dX3_drips_134 ?_
        refine g_iadd X dX3_drips_135 ?_
        refine g_iast (v := ((rDr2 (rDr1 (t.2 1) s p) p q) 12) + (nI 0)) (S' := tw m S (tws t 1 (upd (rDr2 (rDr1 (t.2 1) s p) p q) 12 (((rDr2 (rDr1 (t.2 1) s p) p q) 12) + (nI 0))))) X (mm_ix.of rfl (by omega) (by omega)) (tK1 hT) (tB1 hT) rfl (tw_sA2 (by decide)) dX3_drips_136 ?_
        refine g_aload_n X 3 rfl rfl dX3_drips_137 ?_
        refine g_getR (v := some (m + 1)) X mC_X3 5 (by decide) q3511 (mm_same.rf rfl) rfl (tK0 hT) (tR1 hT) dX3_drips_138 ?_
        refine g_bipush X (nI 13) (by first | rfl | decide) dX3_drips_141 ?_
        refine g_dup2 X rfl rfl dX3_drips_143 ?_
        refine g_iald (v := (rDr2 (rDr1 (t.2 1) s p) p q) 13) X (mm_ix.of rfl (by omega) (by omega)) (tK1 hT) ((tw_A (by decide)).trans (show (upd (rDr2 (rDr1 (t.2 1) s p) p q) 12 (((rDr2 (rDr1 (t.2 1) s p) p q) 12) + (nI 0))) 13 = (rDr2 (rDr1 (t.2 1) s p) p q) 13 from (pk_un (by omega)))) dX3_drips_144 ?_
        refine g_iload_n X 0 rfl rfl dX3_drips_145 ?_
        refine g_if_ge X dX3_drips_146 (tgt := 153) (by decide) (fun h_146JKt => ?_) (fun h_146JKt => ?_)
        · refine g_iconst X (nI 0) (by first | rfl | decide) dX3_drips_153 ?_
          refine g_iadd X dX3_drips_154 ?_
          refine g_iast (v := ((rDr2 (rDr1 (t.2 1) s p) p q) 13) + (nI 0)) (S' := tw m S (tws t 1 (upd (upd (rDr2 (rDr1 (t.2 1) s p) p q) 12 (((rDr2 (rDr1 (t.2 1) s p) p q) 12) + (nI 0))) 13 (((rDr2 (rDr1 (t.2 1) s p) p q) 13) + (nI 0))))) X (mm_ix.of rfl (by omega) (by omega)) (tK1 hT) (tB1 hT) rfl (tw_sA2 (by decide)) dX3_drips_155 ?_
          refine g_aload_n X 3 rfl rfl dX3_drips_156 ?_
          refine g_iload_n X 2 rfl rfl dX3_drips_157 ?_
          refine g_iconst X (nI 4) (by first | rfl | decide) dX3_drips_158 ?_
          refine g_aload_n X 3 rfl rfl dX3_drips_159 ?_
          refine g_getR (v := some (m + 1)) X mC_X3 5 (by decide) q3511 (mm_same.rf rfl) rfl (tK0 hT) (tR1 hT) dX3_drips_160 ?_
          refine g_iconst X (nI 0) (by first | rfl | decide) dX3_drips_163 ?_
          refine g_iald (v := (rDr2 (rDr1 (t.2 1) s p) p q) 0) X (mm_ix.of rfl (by omega) (by omega)) (tK1 hT) ((tw_A (by decide)).trans (show (upd (upd (rDr2 (rDr1 (t.2 1) s p) p q) 12 (((rDr2 (rDr1 (t.2 1) s p) p q) 12) + (nI 0))) 13 (((rDr2 (rDr1 (t.2 1) s p) p q) 13) + (nI 0))) 0 = (rDr2 (rDr1 (t.2 1) s p) p q) 0 from ((pk_un (by omega)).trans (pk_un (by omega))))) dX3_drips_164 ?_
          refine g_aload_n X 3 rfl rfl dX3_drips_165 ?_
          refine g_iload_n X 2 rfl rfl dX3_drips_166 ?_
          refine g_iconst X (nI 1) (by first | rfl | decide) dX3_drips_167 ?_
          refine g_callV (st := [.int ((rDr2 (rDr1 (t.2 1) s p) p q) 0), .int (nI 4), .int (nI s), .ref m]) X (sp_X3_ofStone _ _ _ m S (tws t 1 (upd (upd (rDr2 (rDr1 (t.2 1) s p) p q) 12 (((rDr2 (rDr1 (t.2 1) s p) p q) 12) + (nI 0))) 13 (((rDr2 (rDr1 (t.2 1) s p) p q) 13) + (nI 0)))) hT s 1 (by omega)) q3614 q3616 qs55 q119 q3617 ⟨rfl, (mm_npk 2 rfl (by decide +kernel))⟩ ⟨⟨Nat.le_of_ble_eq_true rfl, Nat.le_of_ble_eq_true rfl⟩, Nat.le_of_ble_eq_true rfl, Nat.le_of_ble_eq_true rfl⟩ mC_X3 (tK0 hT) rfl (Nat.le_of_ble_eq_true rfl) dX3_drips_168 (fun _ _ _ h => False.elim h) (fun v_168JKtt S_168JKtt p_168JKtt => ?_)
          obtain ⟨rfl, rfl⟩ := p_168JKtt
          refine G.eq (show _ = ([.int ((rDr2 (rDr1 (t.2 1) s p) p q) (76 + 5 * s + 1)), .int ((rDr2 (rDr1 (t.2 1) s p) p q) 0), .int (nI 4), .int (nI s), .ref m] : List Value) by rw [show (tws t 1 (upd (upd (rDr2 (rDr1 (t.2 1) s p) p q) 12 (((rDr2 (rDr1 (t.2 1) s p) p q) 12) + (nI 0))) 13 (((rDr2 (rDr1 (t.2 1) s p) p q) 13) + (nI 0)))).2 1 (76 + 5 * s + 1) = (rDr2 (rDr1 (t.2 1) s p) p q) (76 + 5 * s + 1) from (show (upd (upd (rDr2 (rDr1 (t.2 1) s p) p q) 12 (((rDr2 (rDr1 (t.2 1) s p) p q) 12) + (nI 0))) 13 (((rDr2 (rDr1 (t.2 1) s p) p q) 13) + (nI 0))) (76 + 5 * s + 1) = (rDr2 (rDr1 (t.2 1) s p) p q) (76 + 5 * s + 1) from ((pk_un (by omega)).trans (pk_un (by omega))))]; rfl) ?_
          refine g_iadd X dX3_drips_171 ?_
          refine g_iconst X (nI 2) (by first | rfl | decide) dX3_drips_172 ?_
          refine g_aload_n X 3 rfl rfl dX3_drips_173 ?_
          refine g_iload_n X 2 rfl rfl dX3_drips_174 ?_
          refine g_iconst X (nI 2) (by first | rfl | decide) dX3_drips_175 ?_
          refine g_callV (st := [.int (nI 2), .int (((rDr2 (rDr1 (t.2 1) s p) p q) 0) + ((rDr2 (rDr1 (t.2 1) s p) p q) (76 + 5 * s + 1))), .int (nI 4), .int (nI s), .ref m]) X (sp_X3_ofStone _ _ _ m S (tws t 1 (upd (upd (rDr2 (rDr1 (t.2 1) s p) p q) 12 (((rDr2 (rDr1 (t.2 1) s p) p q) 12) + (nI 0))) 13 (((rDr2 (rDr1 (t.2 1) s p) p q) 13) + (nI 0)))) hT s 2 (by omega)) q3614 q3616 qs55 q119 q3617 ⟨rfl, (mm_npk 2 rfl (by decide +kernel))⟩ ⟨⟨Nat.le_of_ble_eq_true rfl, Nat.le_of_ble_eq_true rfl⟩, Nat.le_of_ble_eq_true rfl, Nat.le_of_ble_eq_true rfl⟩ mC_X3 (tK0 hT) rfl (Nat.le_of_ble_eq_true rfl) dX3_drips_176 (fun _ _ _ h => False.elim h) (fun v_176JKtt S_176JKtt p_176JKtt => ?_)
          obtain ⟨rfl, rfl⟩ := p_176JKtt
          refine G.eq (show _ = ([.int ((rDr2 (rDr1 (t.2 1) s p) p q) (76 + 5 * s + 2)), .int (nI 2), .int (((rDr2 (rDr1 (t.2 1) s p) p q) 0) + ((rDr2 (rDr1 (t.2 1) s p) p q) (76 + 5 * s + 1))), .int (nI 4), .int (nI s), .ref m] : List Value) by rw [show (tws t 1 (upd (upd (rDr2 (rDr1 (t.2 1) s p) p q) 12 (((rDr2 (rDr1 (t.2 1) s p) p q) 12) + (nI 0))) 13 (((rDr2 (rDr1 (t.2 1) s p) p q) 13) + (nI 0)))).2 1 (76 + 5 * s + 2) = (rDr2 (rDr1 (t.2 1) s p) p q) (76 + 5 * s + 2) from (show (upd (upd (rDr2 (rDr1 (t.2 1) s p) p q) 12 (((rDr2 (rDr1 (t.2 1) s p) p q) 12) + (nI 0))) 13 (((rDr2 (rDr1 (t.2 1) s p) p q) 13) + (nI 0))) (76 + 5 * s + 2) = (rDr2 (rDr1 (t.2 1) s p) p q) (76 + 5 * s + 2) from ((pk_un (by omega)).trans (pk_un (by omega))))]; rfl) ?_
          refine g_imul X dX3_drips_179 ?_
          refine g_iadd X dX3_drips_180 ?_
          refine g_callV (st := []) X (sp_X3_setsStone _ _ _ m S (tws t 1 (upd (upd (rDr2 (rDr1 (t.2 1) s p) p q) 12 (((rDr2 (rDr1 (t.2 1) s p) p q) 12) + (nI 0))) 13 (((rDr2 (rDr1 (t.2 1) s p) p q) 13) + (nI 0)))) hT s 4 (by omega) (_)) q3654 q3656 qs60 q119 q3657 ⟨rfl, (mm_npk 3 rfl (by decide +kernel))⟩ ⟨⟨Nat.le_of_ble_eq_true rfl, Nat.le_of_ble_eq_true rfl⟩, Nat.le_of_ble_eq_true rfl, Nat.le_of_ble_eq_true rfl⟩ mC_X3 (tK0 hT) rfl (Nat.le_of_ble_eq_true rfl) dX3_drips_181 (fun _ _ _ h => False.elim h) (fun v_181JKtt S_181JKtt p_181JKtt => ?_)
          obtain rfl := p_181JKtt
          refine G.mem (S' := tw m S (tws t 1 (upd (upd (upd (rDr2 (rDr1 (t.2 1) s p) p q) 12 (((rDr2 (rDr1 (t.2 1) s p) p q) 12) + (nI 0))) 13 (((rDr2 (rDr1 (t.2 1) s p) p q) 13) + (nI 0))) (76 + 5 * s + 4) ((rDr2 (rDr1 (t.2 1) s p) p q) 0 + (rDr2 (rDr1 (t.2 1) s p) p q) (76 + 5 * s + 1) + nI 2 * (rDr2 (rDr1 (t.2 1) s p) p q) (76 + 5 * s + 2))))) (congrArg (tw m S) tws_tws) ?_
          refine G.eq (show _ = ([] : List Value) from rfl) ?_
          exact g_return X Y hr ⟨Nat.le_of_ble_eq_true rfl, Nat.le_of_ble_eq_true rfl⟩ dX3_drips_184 (by unfold rDrips rDr3; rw [bI_f (Int32.not_lt.mpr h_127JK), bI_f (Int32.not_lt.mpr h_146JKt)])
        · refine g_iconst X (nI 1) (by first | rfl | decide) dX3_drips_149 ?_
          refine g_goto X dX3_drips_150 (tgt := 154) (by decide) ?_
          refine g_iadd X dX3_drips_154 ?_
          refine g_iast (v := ((rDr2 (rDr1 (t.2 1) s p) p q) 13) + (nI 1)) (S' := tw m S (tws t 1 (upd (upd (rDr2 (rDr1 (t.2 1) s p) p q) 12 (((rDr2 (rDr1 (t.2 1) s p) p q) 12) + (nI 0))) 13 (((rDr2 (rDr1 (t.2 1) s p) p q) 13) + (nI 1))))) X (mm_ix.of rfl (by omega) (by omega)) (tK1 hT) (tB1 hT) rfl (tw_sA2 (by decide)) dX3_drips_155 ?_
          refine g_aload_n X 3 rfl rfl dX3_drips_156 ?_
          refine g_iload_n X 2 rfl rfl dX3_drips_157 ?_
          refine g_iconst X (nI 4) (by first | rfl | decide) dX3_drips_158 ?_
          refine g_aload_n X 3 rfl rfl dX3_drips_159 ?_
          refine g_getR (v := some (m + 1)) X mC_X3 5 (by decide) q3511 (mm_same.rf rfl) rfl (tK0 hT) (tR1 hT) dX3_drips_160 ?_
          refine g_iconst X (nI 0) (by first | rfl | decide) dX3_drips_163 ?_
          refine g_iald (v := (rDr2 (rDr1 (t.2 1) s p) p q) 0) X (mm_ix.of rfl (by omega) (by omega)) (tK1 hT) ((tw_A (by decide)).trans (show (upd (upd (rDr2 (rDr1 (t.2 1) s p) p q) 12 (((rDr2 (rDr1 (t.2 1) s p) p q) 12) + (nI 0))) 13 (((rDr2 (rDr1 (t.2 1) s p) p q) 13) + (nI 1))) 0 = (rDr2 (rDr1 (t.2 1) s p) p q) 0 from ((pk_un (by omega)).trans (pk_un (by omega))))) dX3_drips_164 ?_
          refine g_aload_n X 3 rfl rfl dX3_drips_165 ?_
          refine g_iload_n X 2 rfl rfl dX3_drips_166 ?_
          refine g_iconst X (nI 1) (by first | rfl | decide) dX3_drips_167 ?_
          refine g_callV (st := [.int ((rDr2 (rDr1 (t.2 1) s p) p q) 0), .int (nI 4), .int (nI s), .ref m]) X (sp_X3_ofStone _ _ _ m S (tws t 1 (upd (upd (rDr2 (rDr1 (t.2 1) s p) p q) 12 (((rDr2 (rDr1 (t.2 1) s p) p q) 12) + (nI 0))) 13 (((rDr2 (rDr1 (t.2 1) s p) p q) 13) + (nI 1)))) hT s 1 (by omega)) q3614 q3616 qs55 q119 q3617 ⟨rfl, (mm_npk 2 rfl (by decide +kernel))⟩ ⟨⟨Nat.le_of_ble_eq_true rfl, Nat.le_of_ble_eq_true rfl⟩, Nat.le_of_ble_eq_true rfl, Nat.le_of_ble_eq_true rfl⟩ mC_X3 (tK0 hT) rfl (Nat.le_of_ble_eq_true rfl) dX3_drips_168 (fun _ _ _ h => False.elim h) (fun v_168JKtf S_168JKtf p_168JKtf => ?_)
          obtain ⟨rfl, rfl⟩ := p_168JKtf
          refine G.eq (show _ = ([.int ((rDr2 (rDr1 (t.2 1) s p) p q) (76 + 5 * s + 1)), .int ((rDr2 (rDr1 (t.2 1) s p) p q) 0), .int (nI 4), .int (nI s), .ref m] : List Value) by rw [show (tws t 1 (upd (upd (rDr2 (rDr1 (t.2 1) s p) p q) 12 (((rDr2 (rDr1 (t.2 1) s p) p q) 12) + (nI 0))) 13 (((rDr2 (rDr1 (t.2 1) s p) p q) 13) + (nI 1)))).2 1 (76 + 5 * s + 1) = (rDr2 (rDr1 (t.2 1) s p) p q) (76 + 5 * s + 1) from (show (upd (upd (rDr2 (rDr1 (t.2 1) s p) p q) 12 (((rDr2 (rDr1 (t.2 1) s p) p q) 12) + (nI 0))) 13 (((rDr2 (rDr1 (t.2 1) s p) p q) 13) + (nI 1))) (76 + 5 * s + 1) = (rDr2 (rDr1 (t.2 1) s p) p q) (76 + 5 * s + 1) from ((pk_un (by omega)).trans (pk_un (by omega))))]; rfl) ?_
          refine g_iadd X dX3_drips_171 ?_
          refine g_iconst X (nI 2) (by first | rfl | decide) dX3_drips_172 ?_
          refine g_aload_n X 3 rfl rfl dX3_drips_173 ?_
          refine g_iload_n X 2 rfl rfl dX3_drips_174 ?_
          refine g_iconst X (nI 2) (by first | rfl | decide) dX3_drips_175 ?_
          refine g_callV (st := [.int (nI 2), .int (((rDr2 (rDr1 (t.2 1) s p) p q) 0) + ((rDr2 (rDr1 (t.2 1) s p) p q) (76 + 5 * s + 1))), .int (nI 4), .int (nI s), .ref m]) X (sp_X3_ofStone _ _ _ m S (tws t 1 (upd (upd (rDr2 (rDr1 (t.2 1) s p) p q) 12 (((rDr2 (rDr1 (t.2 1) s p) p q) 12) + (nI 0))) 13 (((rDr2 (rDr1 (t.2 1) s p) p q) 13) + (nI 1)))) hT s 2 (by omega)) q3614 q3616 qs55 q119 q3617 ⟨rfl, (mm_npk 2 rfl (by decide +kernel))⟩ ⟨⟨Nat.le_of_ble_eq_true rfl, Nat.le_of_ble_eq_true rfl⟩, Nat.le_of_ble_eq_true rfl, Nat.le_of_ble_eq_true rfl⟩ mC_X3 (tK0 hT) rfl (Nat.le_of_ble_eq_true rfl) dX3_drips_176 (fun _ _ _ h => False.elim h) (fun v_176JKtf S_176JKtf p_176JKtf => ?_)
          obtain ⟨rfl, rfl⟩ := p_176JKtf
          refine G.eq (show _ = ([.int ((rDr2 (rDr1 (t.2 1) s p) p q) (76 + 5 * s + 2)), .int (nI 2), .int (((rDr2 (rDr1 (t.2 1) s p) p q) 0) + ((rDr2 (rDr1 (t.2 1) s p) p q) (76 + 5 * s + 1))), .int (nI 4), .int (nI s), .ref m] : List Value) by rw [show (tws t 1 (upd (upd (rDr2 (rDr1 (t.2 1) s p) p q) 12 (((rDr2 (rDr1 (t.2 1) s p) p q) 12) + (nI 0))) 13 (((rDr2 (rDr1 (t.2 1) s p) p q) 13) + (nI 1)))).2 1 (76 + 5 * s + 2) = (rDr2 (rDr1 (t.2 1) s p) p q) (76 + 5 * s + 2) from (show (upd (upd (rDr2 (rDr1 (t.2 1) s p) p q) 12 (((rDr2 (rDr1 (t.2 1) s p) p q) 12) + (nI 0))) 13 (((rDr2 (rDr1 (t.2 1) s p) p q) 13) + (nI 1))) (76 + 5 * s + 2) = (rDr2 (rDr1 (t.2 1) s p) p q) (76 + 5 * s + 2) from ((pk_un (by omega)).trans (pk_un (by omega))))]; rfl) ?_
          refine g_imul X dX3_drips_179 ?_
          refine g_iadd X dX3_drips_180 ?_
          refine g_callV (st := []) X (sp_X3_setsStone _ _ _ m S (tws t 1 (upd (upd (rDr2 (rDr1 (t.2 1) s p) p q) 12 (((rDr2 (rDr1 (t.2 1) s p) p q) 12) + (nI 0))) 13 (((rDr2 (rDr1 (t.2 1) s p) p q) 13) + (nI 1)))) hT s 4 (by omega) (_)) q3654 q3656 qs60 q119 q3657 ⟨rfl, (mm_npk 3 rfl (by decide +kernel))⟩ ⟨⟨Nat.le_of_ble_eq_true rfl, Nat.le_of_ble_eq_true rfl⟩, Nat.le_of_ble_eq_true rfl, Nat.le_of_ble_eq_true rfl⟩ mC_X3 (tK0 hT) rfl (Nat.le_of_ble_eq_true rfl) dX3_drips_181 (fun _ _ _ h => False.elim h) (fun v_181JKtf S_181JKtf p_181JKtf => ?_)
          obtain rfl := p_181JKtf
          refine G.mem (S' := tw m S (tws t 1 (upd (upd (upd (rDr2 (rDr1 (t.2 1) s p) p q) 12 (((rDr2 (rDr1 (t.2 1) s p) p q) 12) + (nI 0))) 13 (((rDr2 (rDr1 (t.2 1) s p) p q) 13) + (nI 1))) (76 + 5 * s + 4) ((rDr2 (rDr1 (t.2 1) s p) p q) 0 + (rDr2 (rDr1 (t.2 1) s p) p q) (76 + 5 * s + 1) + nI 2 * (rDr2 (rDr1 (t.2 1) s p) p q) (76 + 5 * s + 2))))) (congrArg (tw m S) tws_tws) ?_
          refine G.eq (show _ = ([] : List Value) from rfl) ?_
          exact g_return X Y hr ⟨Nat.le_of_ble_eq_true rfl, Nat.le_of_ble_eq_true rfl⟩ dX3_drips_184 (by unfold rDrips rDr3; rw [bI_f (Int32.not_lt.mpr h_127JK), bI_t (Int32.not_le.mp h_146JKt)])
      · refine g_iconst X (nI 1) (by first | rfl | decide) dX3_drips_130 ?_
        refine g_goto X dX3_drips_131 (tgt := 135) (by decide) ?_
        refine g_iadd X dX3_drips_135 ?_
        refine g_iast (v := ((rDr2 (rDr1 (t.2 1) s p) p q) 12) + (nI 1)) (S' := tw m S (tws t 1 (upd (rDr2 (rDr1 (t.2 1) s p) p q) 12 (((rDr2 (rDr1 (t.2 1) s p) p q) 12) + (nI 1))))) X (mm_ix.of rfl (by omega) (by omega)) (tK1 hT) (tB1 hT) rfl (tw_sA2 (by decide)) dX3_drips_136 ?_
        refine g_aload_n X 3 rfl rfl dX3_drips_137 ?_
        refine g_getR (v := some (m + 1)) X mC_X3 5 (by decide) q3511 (mm_same.rf rfl) rfl (tK0 hT) (tR1 hT) dX3_drips_138 ?_
        refine g_bipush X (nI 13) (by first | rfl | decide) dX3_drips_141 ?_
        refine g_dup2 X rfl rfl dX3_drips_143 ?_
        refine g_iald (v := (rDr2 (rDr1 (t.2 1) s p) p q) 13) X (mm_ix.of rfl (by omega) (by omega)) (tK1 hT) ((tw_A (by decide)).trans (show (upd (rDr2 (rDr1 (t.2 1) s p) p q) 12 (((rDr2 (rDr1 (t.2 1) s p) p q) 12) + (nI 1))) 13 = (rDr2 (rDr1 (t.2 1) s p) p q) 13 from (pk_un (by omega)))) dX3_drips_144 ?_
        refine g_iload_n X 0 rfl rfl dX3_drips_145 ?_
        refine g_if_ge X dX3_drips_146 (tgt := 153) (by decide) (fun h_146JKf => ?_) (fun h_146JKf => ?_)
        · refine g_iconst X (nI 0) (by first | rfl | decide) dX3_drips_153 ?_
          refine g_iadd X dX3_drips_154 ?_
          refine g_iast (v := ((rDr2 (rDr1 (t.2 1) s p) p q) 13) + (nI 0)) (S' := tw m S (tws t 1 (upd (upd (rDr2 (rDr1 (t.2 1) s p) p q) 12 (((rDr2 (rDr1 (t.2 1) s p) p q) 12) + (nI 1))) 13 (((rDr2 (rDr1 (t.2 1) s p) p q) 13) + (nI 0))))) X (mm_ix.of rfl (by omega) (by omega)) (tK1 hT) (tB1 hT) rfl (tw_sA2 (by decide)) dX3_drips_155 ?_
          refine g_aload_n X 3 rfl rfl dX3_drips_156 ?_
          refine g_iload_n X 2 rfl rfl dX3_drips_157 ?_
          refine g_iconst X (nI 4) (by first | rfl | decide) dX3_drips_158 ?_
          refine g_aload_n X 3 rfl rfl dX3_drips_159 ?_
          refine g_getR (v := some (m + 1)) X mC_X3 5 (by decide) q3511 (mm_same.rf rfl) rfl (tK0 hT) (tR1 hT) dX3_drips_160 ?_
          refine g_iconst X (nI 0) (by first | rfl | decide) dX3_drips_163 ?_
          refine g_iald (v := (rDr2 (rDr1 (t.2 1) s p) p q) 0) X (mm_ix.of rfl (by omega) (by omega)) (tK1 hT) ((tw_A (by decide)).trans (show (upd (upd (rDr2 (rDr1 (t.2 1) s p) p q) 12 (((rDr2 (rDr1 (t.2 1) s p) p q) 12) + (nI 1))) 13 (((rDr2 (rDr1 (t.2 1) s p) p q) 13) + (nI 0))) 0 = (rDr2 (rDr1 (t.2 1) s p) p q) 0 from ((pk_un (by omega)).trans (pk_un (by omega))))) dX3_drips_164 ?_
          refine g_aload_n X 3 rfl rfl dX3_drips_165 ?_
          refine g_iload_n X 2 rfl rfl dX3_drips_166 ?_
          refine g_iconst X (nI 1) (by first | rfl | decide) dX3_drips_167 ?_
          refine g_callV (st := [.int ((rDr2 (rDr1 (t.2 1) s p) p q) 0), .int (nI 4), .int (nI s), .ref m]) X (sp_X3_ofStone _ _ _ m S (tws t 1 (upd (upd (rDr2 (rDr1 (t.2 1) s p) p q) 12 (((rDr2 (rDr1 (t.2 1) s p) p q) 12) + (nI 1))) 13 (((rDr2 (rDr1 (t.2 1) s p) p q) 13) + (nI 0)))) hT s 1 (by omega)) q3614 q3616 qs55 q119 q3617 ⟨rfl, (mm_npk 2 rfl (by decide +kernel))⟩ ⟨⟨Nat.le_of_ble_eq_true rfl, Nat.le_of_ble_eq_true rfl⟩, Nat.le_of_ble_eq_true rfl, Nat.le_of_ble_eq_true rfl⟩ mC_X3 (tK0 hT) rfl (Nat.le_of_ble_eq_true rfl) dX3_drips_168 (fun _ _ _ h => False.elim h) (fun v_168JKft S_168JKft p_168JKft => ?_)
          obtain ⟨rfl, rfl⟩ := p_168JKft
          refine G.eq (show _ = ([.int ((rDr2 (rDr1 (t.2 1) s p) p q) (76 + 5 * s + 1)), .int ((rDr2 (rDr1 (t.2 1) s p) p q) 0), .int (nI 4), .int (nI s), .ref m] : List Value) by rw [show (tws t 1 (upd (upd (rDr2 (rDr1 (t.2 1) s p) p q) 12 (((rDr2 (rDr1 (t.2 1) s p) p q) 12) + (nI 1))) 13 (((rDr2 (rDr1 (t.2 1) s p) p q) 13) + (nI 0)))).2 1 (76 + 5 * s + 1) = (rDr2 (rDr1 (t.2 1) s p) p q) (76 + 5 * s + 1) from (show (upd (upd (rDr2 (rDr1 (t.2 1) s p) p q) 12 (((rDr2 (rDr1 (t.2 1) s p) p q) 12) + (nI 1))) 13 (((rDr2 (rDr1 (t.2 1) s p) p q) 13) + (nI 0))) (76 + 5 * s + 1) = (rDr2 (rDr1 (t.2 1) s p) p q) (76 + 5 * s + 1) from ((pk_un (by omega)).trans (pk_un (by omega))))]; rfl) ?_
          refine g_iadd X dX3_drips_171 ?_
          refine g_iconst X (nI 2) (by first | rfl | decide) dX3_drips_172 ?_
          refine g_aload_n X 3 rfl rfl dX3_drips_173 ?_
          refine g_iload_n X 2 rfl rfl dX3_drips_174 ?_
          refine g_iconst X (nI 2) (by first | rfl | decide) dX3_drips_175 ?_
          refine g_callV (st := [.int (nI 2), .int (((rDr2 (rDr1 (t.2 1) s p) p q) 0) + ((rDr2 (rDr1 (t.2 1) s p) p q) (76 + 5 * s + 1))), .int (nI 4), .int (nI s), .ref m]) X (sp_X3_ofStone _ _ _ m S (tws t 1 (upd (upd (rDr2 (rDr1 (t.2 1) s p) p q) 12 (((rDr2 (rDr1 (t.2 1) s p) p q) 12) + (nI 1))) 13 (((rDr2 (rDr1 (t.2 1) s p) p q) 13) + (nI 0)))) hT s 2 (by omega)) q3614 q3616 qs55 q119 q3617 ⟨rfl, (mm_npk 2 rfl (by decide +kernel))⟩ ⟨⟨Nat.le_of_ble_eq_true rfl, Nat.le_of_ble_eq_true rfl⟩, Nat.le_of_ble_eq_true rfl, Nat.le_of_ble_eq_true rfl⟩ mC_X3 (tK0 hT) rfl (Nat.le_of_ble_eq_true rfl) dX3_drips_176 (fun _ _ _ h => False.elim h) (fun v_176JKft S_176JKft p_176JKft => ?_)
          obtain ⟨rfl, rfl⟩ := p_176JKft
          refine G.eq (show _ = ([.int ((rDr2 (rDr1 (t.2 1) s p) p q) (76 + 5 * s + 2)), .int (nI 2), .int (((rDr2 (rDr1 (t.2 1) s p) p q) 0) + ((rDr2 (rDr1 (t.2 1) s p) p q) (76 + 5 * s + 1))), .int (nI 4), .int (nI s), .ref m] : List Value) by rw [show (tws t 1 (upd (upd (rDr2 (rDr1 (t.2 1) s p) p q) 12 (((rDr2 (rDr1 (t.2 1) s p) p q) 12) + (nI 1))) 13 (((rDr2 (rDr1 (t.2 1) s p) p q) 13) + (nI 0)))).2 1 (76 + 5 * s + 2) = (rDr2 (rDr1 (t.2 1) s p) p q) (76 + 5 * s + 2) from (show (upd (upd (rDr2 (rDr1 (t.2 1) s p) p q) 12 (((rDr2 (rDr1 (t.2 1) s p) p q) 12) + (nI 1))) 13 (((rDr2 (rDr1 (t.2 1) s p) p q) 13) + (nI 0))) (76 + 5 * s + 2) = (rDr2 (rDr1 (t.2 1) s p) p q) (76 + 5 * s + 2) from ((pk_un (by omega)).trans (pk_un (by omega))))]; rfl) ?_
          refine g_imul X dX3_drips_179 ?_
          refine g_iadd X dX3_drips_180 ?_
          refine g_callV (st := []) X (sp_X3_setsStone _ _ _ m S (tws t 1 (upd (upd (rDr2 (rDr1 (t.2 1) s p) p q) 12 (((rDr2 (rDr1 (t.2 1) s p) p q) 12) + (nI 1))) 13 (((rDr2 (rDr1 (t.2 1) s p) p q) 13) + (nI 0)))) hT s 4 (by omega) (_)) q3654 q3656 qs60 q119 q3657 ⟨rfl, (mm_npk 3 rfl (by decide +kernel))⟩ ⟨⟨Nat.le_of_ble_eq_true rfl, Nat.le_of_ble_eq_true rfl⟩, Nat.le_of_ble_eq_true rfl, Nat.le_of_ble_eq_true rfl⟩ mC_X3 (tK0 hT) rfl (Nat.le_of_ble_eq_true rfl) dX3_drips_181 (fun _ _ _ h => False.elim h) (fun v_181JKft S_181JKft p_181JKft => ?_)
          obtain rfl := p_181JKft
          refine G.mem (S' := tw m S (tws t 1 (upd (upd (upd (rDr2 (rDr1 (t.2 1) s p) p q) 12 (((rDr2 (rDr1 (t.2 1) s p) p q) 12) + (nI 1))) 13 (((rDr2 (rDr1 (t.2 1) s p) p q) 13) + (nI 0))) (76 + 5 * s + 4) ((rDr2 (rDr1 (t.2 1) s p) p q) 0 + (rDr2 (rDr1 (t.2 1) s p) p q) (76 + 5 * s + 1) + nI 2 * (rDr2 (rDr1 (t.2 1) s p) p q) (76 + 5 * s + 2))))) (congrArg (tw m S) tws_tws) ?_
          refine G.eq (show _ = ([] : List Value) from rfl) ?_
          exact g_return X Y hr ⟨Nat.le_of_ble_eq_true rfl, Nat.le_of_ble_eq_true rfl⟩ dX3_drips_184 (by unfold rDrips rDr3; rw [bI_t (Int32.not_le.mp h_127JK), bI_f (Int32.not_lt.mpr h_146JKf)])
        · refine g_iconst X (nI 1) (by first | rfl | decide) dX3_drips_149 ?_
          refine g_goto X dX3_drips_150 (tgt := 154) (by decide) ?_
          refine g_iadd X dX3_drips_154 ?_
          refine g_iast (v := ((rDr2 (rDr1 (t.2 1) s p) p q) 13) + (nI 1)) (S' := tw m S (tws t 1 (upd (upd (rDr2 (rDr1 (t.2 1) s p) p q) 12 (((rDr2 (rDr1 (t.2 1) s p) p q) 12) + (nI 1))) 13 (((rDr2 (rDr1 (t.2 1) s p) p q) 13) + (nI 1))))) X (mm_ix.of rfl (by omega) (by omega)) (tK1 hT) (tB1 hT) rfl (tw_sA2 (by decide)) dX3_drips_155 ?_
          refine g_aload_n X 3 rfl rfl dX3_drips_156 ?_
          refine g_iload_n X 2 rfl rfl dX3_drips_157 ?_
          refine g_iconst X (nI 4) (by first | rfl | decide) dX3_drips_158 ?_
          refine g_aload_n X 3 rfl rfl dX3_drips_159 ?_
          refine g_getR (v := some (m + 1)) X mC_X3 5 (by decide) q3511 (mm_same.rf rfl) rfl (tK0 hT) (tR1 hT) dX3_drips_160 ?_
          refine g_iconst X (nI 0) (by first | rfl | decide) dX3_drips_163 ?_
          refine g_iald (v := (rDr2 (rDr1 (t.2 1) s p) p q) 0) X (mm_ix.of rfl (by omega) (by omega)) (tK1 hT) ((tw_A (by decide)).trans (show (upd (upd (rDr2 (rDr1 (t.2 1) s p) p q) 12 (((rDr2 (rDr1 (t.2 1) s p) p q) 12) + (nI 1))) 13 (((rDr2 (rDr1 (t.2 1) s p) p q) 13) + (nI 1))) 0 = (rDr2 (rDr1 (t.2 1) s p) p q) 0 from ((pk_un (by omega)).trans (pk_un (by omega))))) dX3_drips_164 ?_
          refine g_aload_n X 3 rfl rfl dX3_drips_165 ?_
          refine g_iload_n X 2 rfl rfl dX3_drips_166 ?_
          refine g_iconst X (nI 1) (by first | rfl | decide) dX3_drips_167 ?_
          refine g_callV (st := [.int ((rDr2 (rDr1 (t.2 1) s p) p q) 0), .int (nI 4), .int (nI s), .ref m]) X (sp_X3_ofStone _ _ _ m S (tws t 1 (upd (upd (rDr2 (rDr1 (t.2 1) s p) p q) 12 (((rDr2 (rDr1 (t.2 1) s p) p q) 12) + (nI 1))) 13 (((rDr2 (rDr1 (t.2 1) s p) p q) 13) + (nI 1)))) hT s 1 (by omega)) q3614 q3616 qs55 q119 q3617 ⟨rfl, (mm_npk 2 rfl (by decide +kernel))⟩ ⟨⟨Nat.le_of_ble_eq_true rfl, Nat.le_of_ble_eq_true rfl⟩, Nat.le_of_ble_eq_true rfl, Nat.le_of_ble_eq_true rfl⟩ mC_X3 (tK0 hT) rfl (Nat.le_of_ble_eq_true rfl) dX3_drips_168 (fun _ _ _ h => False.elim h) (fun v_168JKff S_168JKff p_168JKff => ?_)
          obtain ⟨rfl, rfl⟩ := p_168JKff
          refine G.eq (show _ = ([.int ((rDr2 (rDr1 (t.2 1) s p) p q) (76 + 5 * s + 1)), .int ((rDr2 (rDr1 (t.2 1) s p) p q) 0), .int (nI 4), .int (nI s), .ref m] : List Value) by rw [show (tws t 1 (upd (upd (rDr2 (rDr1 (t.2 1) s p) p q) 12 (((rDr2 (rDr1 (t.2 1) s p) p q) 12) + (nI 1))) 13 (((rDr2 (rDr1 (t.2 1) s p) p q) 13) + (nI 1)))).2 1 (76 + 5 * s + 1) = (rDr2 (rDr1 (t.2 1) s p) p q) (76 + 5 * s + 1) from (show (upd (upd (rDr2 (rDr1 (t.2 1) s p) p q) 12 (((rDr2 (rDr1 (t.2 1) s p) p q) 12) + (nI 1))) 13 (((rDr2 (rDr1 (t.2 1) s p) p q) 13) + (nI 1))) (76 + 5 * s + 1) = (rDr2 (rDr1 (t.2 1) s p) p q) (76 + 5 * s + 1) from ((pk_un (by omega)).trans (pk_un (by omega))))]; rfl) ?_
          refine g_iadd X dX3_drips_171 ?_
          refine g_iconst X (nI 2) (by first | rfl | decide) dX3_drips_172 ?_
          refine g_aload_n X 3 rfl rfl dX3_drips_173 ?_
          refine g_iload_n X 2 rfl rfl dX3_drips_174 ?_
          refine g_iconst X (nI 2) (by first | rfl | decide) dX3_drips_175 ?_
          refine g_callV (st := [.int (nI 2), .int (((rDr2 (rDr1 (t.2 1) s p) p q) 0) + ((rDr2 (rDr1 (t.2 1) s p) p q) (76 + 5 * s + 1))), .int (nI 4), .int (nI s), .ref m]) X (sp_X3_ofStone _ _ _ m S (tws t 1 (upd (upd (rDr2 (rDr1 (t.2 1) s p) p q) 12 (((rDr2 (rDr1 (t.2 1) s p) p q) 12) + (nI 1))) 13 (((rDr2 (rDr1 (t.2 1) s p) p q) 13) + (nI 1)))) hT s 2 (by omega)) q3614 q3616 qs55 q119 q3617 ⟨rfl, (mm_npk 2 rfl (by decide +kernel))⟩ ⟨⟨Nat.le_of_ble_eq_true rfl, Nat.le_of_ble_eq_true rfl⟩, Nat.le_of_ble_eq_true rfl, Nat.le_of_ble_eq_true rfl⟩ mC_X3 (tK0 hT) rfl (Nat.le_of_ble_eq_true rfl) dX3_drips_176 (fun _ _ _ h => False.elim h) (fun v_176JKff S_176JKff p_176JKff => ?_)
          obtain ⟨rfl, rfl⟩ := p_176JKff
          refine G.eq (show _ = ([.int ((rDr2 (rDr1 (t.2 1) s p) p q) (76 + 5 * s + 2)), .int (nI 2), .int (((rDr2 (rDr1 (t.2 1) s p) p q) 0) + ((rDr2 (rDr1 (t.2 1) s p) p q) (76 + 5 * s + 1))), .int (nI 4), .int (nI s), .ref m] : List Value) by rw [show (tws t 1 (upd (upd (rDr2 (rDr1 (t.2 1) s p) p q) 12 (((rDr2 (rDr1 (t.2 1) s p) p q) 12) + (nI 1))) 13 (((rDr2 (rDr1 (t.2 1) s p) p q) 13) + (nI 1)))).2 1 (76 + 5 * s + 2) = (rDr2 (rDr1 (t.2 1) s p) p q) (76 + 5 * s + 2) from (show (upd (upd (rDr2 (rDr1 (t.2 1) s p) p q) 12 (((rDr2 (rDr1 (t.2 1) s p) p q) 12) + (nI 1))) 13 (((rDr2 (rDr1 (t.2 1) s p) p q) 13) + (nI 1))) (76 + 5 * s + 2) = (rDr2 (rDr1 (t.2 1) s p) p q) (76 + 5 * s + 2) from ((pk_un (by omega)).trans (pk_un (by omega))))]; rfl) ?_
          refine g_imul X dX3_drips_179 ?_
          refine g_iadd X dX3_drips_180 ?_
          refine g_callV (st := []) X (sp_X3_setsStone _ _ _ m S (tws t 1 (upd (upd (rDr2 (rDr1 (t.2 1) s p) p q) 12 (((rDr2 (rDr1 (t.2 1) s p) p q) 12) + (nI 1))) 13 (((rDr2 (rDr1 (t.2 1) s p) p q) 13) + (nI 1)))) hT s 4 (by omega) (_)) q3654 q3656 qs60 q119 q3657 ⟨rfl, (mm_npk 3 rfl (by decide +kernel))⟩ ⟨⟨Nat.le_of_ble_eq_true rfl, Nat.le_of_ble_eq_true rfl⟩, Nat.le_of_ble_eq_true rfl, Nat.le_of_ble_eq_true rfl⟩ mC_X3 (tK0 hT) rfl (Nat.le_of_ble_eq_true rfl) dX3_drips_181 (fun _ _ _ h => False.elim h) (fun v_181JKff S_181JKff p_181JKff => ?_)
          obtain rfl := p_181JKff
          refine G.mem (S' := tw m S (tws t 1 (upd (upd (upd (rDr2 (rDr1 (t.2 1) s p) p q) 12 (((rDr2 (rDr1 (t.2 1) s p) p q) 12) + (nI 1))) 13 (((rDr2 (rDr1 (t.2 1) s p) p q) 13) + (nI 1))) (76 + 5 * s + 4) ((rDr2 (rDr1 (t.2 1) s p) p q) 0 + (rDr2 (rDr1 (t.2 1) s p) p q) (76 + 5 * s + 1) + nI 2 * (rDr2 (rDr1 (t.2 1) s p) p q) (76 + 5 * s + 2))))) (congrArg (tw m S) tws_tws) ?_
          refine G.eq (show _ = ([] : List Value) from rfl) ?_
          exact g_return X Y hr ⟨Nat.le_of_ble_eq_true rfl, Nat.le_of_ble_eq_true rfl⟩ dX3_drips_184 (by unfold rDrips rDr3; rw [bI_t (Int32.not_le.mp h_127JK), bI_t (Int32.not_le.mp h_146JKf)])
    refine g_iload_n X 0 rfl rfl dX3_drips_90 ?_
    refine g_if_eq X dX3_drips_91 (tgt := 118) (by decide) (fun h_91J => ?_) (fun h_91J => ?_)
    · exact G.mem (S' := tw m S (tws t 1 (rDr2 (rDr1 (t.2 1) s p) p q))) (by unfold rDr2; rw [if_pos h_91J]) jx_J
    · obtain ⟨k, hsm⟩ := chg_some h_91J
      have hk := sm_lt hsm
      refine g_aload_n X 3 rfl rfl dX3_drips_94 ?_
      refine g_getR (v := some (m + 1)) X mC_X3 5 (by decide) q3511 (mm_same.rf rfl) rfl (tK0 hT) (tR1 hT) dX3_drips_95 ?_
      refine g_bipush X (nI 16) (by first | rfl | decide) dX3_drips_98 ?_
      refine g_bipush X (nI 10) (by first | rfl | decide) dX3_drips_100 ?_
      refine g_iload_n X 1 rfl rfl dX3_drips_102 ?_
      refine g_imulN X rfl dX3_drips_103 ?_
      refine g_iaddN X rfl dX3_drips_104 ?_
      refine g_iconst X (nI 3) (by first | rfl | decide) dX3_drips_105 ?_
      refine g_iaddN X rfl dX3_drips_106 ?_
      refine g_aload_n X 3 rfl rfl dX3_drips_107 ?_
      refine g_iload_n X 1 rfl rfl dX3_drips_108 ?_
      refine g_callV (st := [.int (nI (16 + 10 * p + 3)), .ref (m + 1)]) X (sp_X3_smallest _ _ _ m S (tws t 1 (rDr1 (t.2 1) s p)) hT p q hp (show rDr1 (t.2 1) s p (16 + 10 * p + 2) = nI q from (rDr1_2 hp hp).trans hq) hq5) q3810 q3812 qs87 q119 q3813 ⟨rfl, (mm_npk 1 rfl (by decide +kernel))⟩ ⟨⟨Nat.le_of_ble_eq_true rfl, Nat.le_of_ble_eq_true rfl⟩, Nat.le_of_ble_eq_true rfl, Nat.le_of_ble_eq_true rfl⟩ mC_X3 (tK0 hT) rfl (Nat.le_of_ble_eq_true rfl) dX3_drips_109 (fun _ _ _ h => False.elim h) (fun v_109Jf S_109Jf p_109Jf => ?_)
      obtain ⟨rfl, rfl⟩ := p_109Jf
      refine G.eq (show _ = ([.int (nI k), .int (nI (16 + 10 * p + 3)), .ref (m + 1)] : List Value) by rw [show sm (szs ((tws t 1 (rDr1 (t.2 1) s p)).2 1) p) q = some k from hsm]; rfl) ?_
      refine g_iaddN X rfl dX3_drips_112 ?_
      refine g_dup2 X rfl rfl dX3_drips_113 ?_
      refine g_iald (v := (rDr1 (t.2 1) s p) (16 + 10 * p + 3 + k)) X (mm_ix.of rfl (by omega) (by omega)) (tK1 hT) (tw_A (by decide)) dX3_drips_114 ?_
      refine g_iload_n X 0 rfl rfl dX3_drips_115 ?_
      refine g_iadd X dX3_drips_116 ?_
      refine g_iast (v := ((rDr1 (t.2 1) s p) (16 + 10 * p + 3 + k)) + (chg (rDr1 (t.2 1) s p) p q)) (S' := tw m S (tws t 1 (upd (rDr1 (t.2 1) s p) (16 + 10 * p + 3 + k) (((rDr1 (t.2 1) s p) (16 + 10 * p + 3 + k)) + (chg (rDr1 (t.2 1) s p) p q))))) X (mm_ix.of rfl (by omega) (by omega)) (tK1 hT) (tB1 hT) rfl (tw_sA2 (by decide)) dX3_drips_117 ?_
      exact G.mem (S' := tw m S (tws t 1 (rDr2 (rDr1 (t.2 1) s p) p q))) (by unfold rDr2; rw [if_neg h_91J, hsm]) jx_J
  refine g_icmp_ge X dX3_drips_52 (tgt := 65) (by decide) (fun h_52 => ?_) (fun h_52 => ?_)
  · refine g_aload_n X 1 rfl rfl dX3_drips_65 ?_
    refine g_iload_n X 0 rfl rfl dX3_drips_66 ?_
    refine g_bipush X (nI 9) (by first | rfl | decide) dX3_drips_67 ?_
    refine g_iconst X (nI 1) (by first | rfl | decide) dX3_drips_69 ?_
    refine g_callV (st := []) X (sp_X3_addsPool _ _ _ m S (tws t 1 (upd (upd (upd (t.2 1) 9 ((t.2 1 9) + (nI 1))) (16 + 10 * p + 8) (t.2 1 (16 + 10 * p + 8) + nI 1)) (76 + 5 * s + 3) (t.2 1 (76 + 5 * s + 3) + nI 1))) hT p 9 (by omega) (nI 1)) q3622 q3624 qs56 q119 q3625 ⟨rfl, (mm_npk 3 rfl (by decide +kernel))⟩ ⟨⟨Nat.le_of_ble_eq_true rfl, Nat.le_of_ble_eq_true rfl⟩, Nat.le_of_ble_eq_true rfl, Nat.le_of_ble_eq_true rfl⟩ mC_X3 (tK0 hT) rfl (Nat.le_of_ble_eq_true rfl) dX3_drips_70 (fun _ _ _ h => False.elim h) (fun v_70t S_70t p_70t => ?_)
    obtain rfl := p_70t
    refine G.mem (S' := tw m S (tws t 1 (upd (upd (upd (upd (t.2 1) 9 ((t.2 1 9) + (nI 1))) (16 + 10 * p + 8) (t.2 1 (16 + 10 * p + 8) + nI 1)) (76 + 5 * s + 3) (t.2 1 (76 + 5 * s + 3) + nI 1)) (16 + 10 * p + 9) (t.2 1 (16 + 10 * p + 9) + nI 1)))) (by rw [show (tws t 1 (upd (upd (upd (t.2 1) 9 ((t.2 1 9) + (nI 1))) (16 + 10 * p + 8) (t.2 1 (16 + 10 * p + 8) + nI 1)) (76 + 5 * s + 3) (t.2 1 (76 + 5 * s + 3) + nI 1))).2 1 (16 + 10 * p + 9) = t.2 1 (16 + 10 * p + 9) from (show (upd (upd (upd (t.2 1) 9 ((t.2 1 9) + (nI 1))) (16 + 10 * p + 8) (t.2 1 (16 + 10 * p + 8) + nI 1)) (76 + 5 * s + 3) (t.2 1 (76 + 5 * s + 3) + nI 1)) (16 + 10 * p + 9) = t.2 1 (16 + 10 * p + 9) from ((pk_un (by omega)).trans ((pk_un (by omega)).trans (pk_un (by omega)))))]; exact congrArg (tw m S) tws_tws) ?_
    refine G.eq (show _ = ([] : List Value) from rfl) ?_
    refine g_aload_n X 1 rfl rfl dX3_drips_73 ?_
    refine g_getR (v := some (m + 1)) X mC_X3 5 (by decide) q3511 (mm_same.rf rfl) rfl (tK0 hT) (tR1 hT) dX3_drips_74 ?_
    refine g_bipush X (nI 10) (by first | rfl | decide) dX3_drips_77 ?_
    refine g_dup2 X rfl rfl dX3_drips_79 ?_
    refine g_iald (v := t.2 1 10) X (mm_ix.of rfl (by omega) (by omega)) (tK1 hT) ((tw_A (by decide)).trans (show (upd (upd (upd (upd (t.2 1) 9 ((t.2 1 9) + (nI 1))) (16 + 10 * p + 8) (t.2 1 (16 + 10 * p + 8) + nI 1)) (76 + 5 * s + 3) (t.2 1 (76 + 5 * s + 3) + nI 1)) (16 + 10 * p + 9) (t.2 1 (16 + 10 * p + 9) + nI 1)) 10 = t.2 1 10 from ((pk_un (by omega)).trans ((pk_un (by omega)).trans ((pk_un (by omega)).trans (pk_un (by omega))))))) dX3_drips_80 ?_
    refine g_iconst X (nI 1) (by first | rfl | decide) dX3_drips_81 ?_
    refine g_iadd X dX3_drips_82 ?_
    refine g_iast (v := (t.2 1 10) + (nI 1)) (S' := tw m S (tws t 1 (upd (upd (upd (upd (upd (t.2 1) 9 ((t.2 1 9) + (nI 1))) (16 + 10 * p + 8) (t.2 1 (16 + 10 * p + 8) + nI 1)) (76 + 5 * s + 3) (t.2 1 (76 + 5 * s + 3) + nI 1)) (16 + 10 * p + 9) (t.2 1 (16 + 10 * p + 9) + nI 1)) 10 ((t.2 1 10) + (nI 1))))) X (mm_ix.of rfl (by omega) (by omega)) (tK1 hT) (tB1 hT) rfl (tw_sA2 (by decide)) dX3_drips_83 ?_
    refine G.locs (L' := [(2, .int (nI p)), (1, .int (nI s)), (0, .ref m)]) [0, 2, 1] rfl ?_
    exact G.mem (S' := tw m S (tws t 1 (rDr1 (t.2 1) s p))) (by unfold rDr1 rDr0; rw [if_neg (Int32.not_lt.mpr h_52)]) jw_
  · refine g_aload_n X 1 rfl rfl dX3_drips_55 ?_
    refine g_iload_n X 0 rfl rfl dX3_drips_56 ?_
    refine g_iconst X (nI 1) (by first | rfl | decide) dX3_drips_57 ?_
    refine g_iconst X (nI 1) (by first | rfl | decide) dX3_drips_58 ?_
    refine g_callV (st := []) X (sp_X3_addsPool _ _ _ m S (tws t 1 (upd (upd (upd (t.2 1) 9 ((t.2 1 9) + (nI 1))) (16 + 10 * p + 8) (t.2 1 (16 + 10 * p + 8) + nI 1)) (76 + 5 * s + 3) (t.2 1 (76 + 5 * s + 3) + nI 1))) hT p 1 (by omega) (nI 1)) q3622 q3624 qs56 q119 q3625 ⟨rfl, (mm_npk 3 rfl (by decide +kernel))⟩ ⟨⟨Nat.le_of_ble_eq_true rfl, Nat.le_of_ble_eq_true rfl⟩, Nat.le_of_ble_eq_true rfl, Nat.le_of_ble_eq_true rfl⟩ mC_X3 (tK0 hT) rfl (Nat.le_of_ble_eq_true rfl) dX3_drips_59 (fun _ _ _ h => False.elim h) (fun v_59f S_59f p_59f => ?_)
    obtain rfl := p_59f
    refine G.mem (S' := tw m S (tws t 1 (upd (upd (upd (upd (t.2 1) 9 ((t.2 1 9) + (nI 1))) (16 + 10 * p + 8) (t.2 1 (16 + 10 * p + 8) + nI 1)) (76 + 5 * s + 3) (t.2 1 (76 + 5 * s + 3) + nI 1)) (16 + 10 * p + 1) (t.2 1 (16 + 10 * p + 1) + nI 1)))) (by rw [show (tws t 1 (upd (upd (upd (t.2 1) 9 ((t.2 1 9) + (nI 1))) (16 + 10 * p + 8) (t.2 1 (16 + 10 * p + 8) + nI 1)) (76 + 5 * s + 3) (t.2 1 (76 + 5 * s + 3) + nI 1))).2 1 (16 + 10 * p + 1) = t.2 1 (16 + 10 * p + 1) from (show (upd (upd (upd (t.2 1) 9 ((t.2 1 9) + (nI 1))) (16 + 10 * p + 8) (t.2 1 (16 + 10 * p + 8) + nI 1)) (76 + 5 * s + 3) (t.2 1 (76 + 5 * s + 3) + nI 1)) (16 + 10 * p + 1) = t.2 1 (16 + 10 * p + 1) from ((pk_un (by omega)).trans ((pk_un (by omega)).trans (pk_un (by omega)))))]; exact congrArg (tw m S) tws_tws) ?_
    refine G.eq (show _ = ([] : List Value) from rfl) ?_
    refine g_goto X dX3_drips_62 (tgt := 84) (by decide) ?_
    refine G.locs (L' := [(2, .int (nI p)), (1, .int (nI s)), (0, .ref m)]) [0, 2, 1] rfl ?_
    exact G.mem (S' := tw m S (tws t 1 (rDr1 (t.2 1) s p))) (by unfold rDr1 rDr0; rw [if_pos (Int32.not_le.mp h_52)]) jw_
