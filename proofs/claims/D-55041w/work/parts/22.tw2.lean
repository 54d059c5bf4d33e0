theorem twf_twf {t : Tw} {k : Nat} {a b : Int32} : twf (twf t k a) k b = twf t k b := by
  show ((fun k' => if k' = k then b else if k' = k then a else t.1 k'), t.2) = ((fun k' => if k' = k then b else t.1 k'), t.2)
  congr 1
  funext k'
  by_cases e : k' = k
  · rw [if_pos e, if_pos e]
  · rw [if_neg e, if_neg e, if_neg e]
theorem twf_self {t : Tw} {k : Nat} {v : Int32} (h : t.1 k = v) : twf t k v = t := by
  show ((fun k' => if k' = k then v else t.1 k'), t.2) = (t.1, t.2)
  congr 1
  funext k'
  by_cases e : k' = k
  · rw [if_pos e, e, h]
  · rw [if_neg e]
theorem twf_comm {t : Tw} {k k' : Nat} {a b : Int32} (h : k ≠ k') : twf (twf t k a) k' b = twf (twf t k' b) k a := by
  show ((fun j => if j = k' then b else if j = k then a else t.1 j), t.2) = ((fun j => if j = k then a else if j = k' then b else t.1 j), t.2)
  congr 1
  funext j
  by_cases e : j = k
  · rw [if_neg (by omega), if_pos e, if_pos e]
  · rw [if_neg e, if_neg e]
/-- n of f, from o on, among g -/
def cpa (f g : Nat → Int32) (o n : Nat) : Nat → Int32 := fun k => if o ≤ k ∧ k < o + n then f (k - o) else g k
theorem cpa_0 {f g : Nat → Int32} {o : Nat} : cpa f g o 0 = g := by
  funext k
  exact if_neg (by omega)
theorem cpa_s {f g : Nat → Int32} {o i : Nat} : upd (cpa f g o i) (o + i) (f i) = cpa f g o (i + 1) := by
  funext k
  by_cases e : k = o + i
  · subst e; rw [pk_us]
    show _ = if _ then _ else _
    rw [if_pos (by omega), Nat.add_sub_cancel_left]
  · rw [pk_un e]
    show (if _ then _ else _) = if _ then _ else _
    by_cases h : o ≤ k ∧ k < o + i
    · rw [if_pos h, if_pos (by omega)]
    · rw [if_neg h, if_neg (by omega)]
def kF (fc ch : Nat) : Nat := if ch = 8 then (fc + 1) % 8 else fc
def kC (ch : Nat) : Nat := if ch = 8 then 7 else ch
def kTo (fc ch : Nat) : Nat := (kF fc ch + kC ch) % 8
/-- the mind is put into the ring -/
def kM (t : Tw) (fc ch : Nat) : Tw := twf (twf (tws t 2 (cpa (t.2 4) (t.2 2) (132 * kTo fc ch) 132)) 10 (nI (kF fc ch))) 9 (nI (kC ch + 1))
/-- the row is put into mind and ring -/
def rem (t : Tw) (fc ch : Nat) : Tw := kM (tws t 4 (cp (t.2 1) (t.2 4) 132)) fc ch
theorem bI_c {P Q : Prop} [Decidable P] [Decidable Q] (h : P ↔ Q) : bI P = bI Q := by
  unfold bI
  by_cases e : P
  · rw [if_pos e, if_pos (h.mp e)]
  · rw [if_neg e, if_neg (fun z => e (h.mpr z))]
set_option maxHeartbeats 4000000 in
set_option maxRecDepth 100000 in
theorem sp_X3_keepsMind (l : Launch) (D : Dg) (B : Nat) (m : Nat) (S : Mm) (t : Tw) (hT : twK B S m) (fc ch : Nat) (hfc : t.1 10 = nI fc) (hfc8 : fc < 8) (hch : t.1 9 = nI ch) (hch8 : ch ≤ 8) : Sp eV l D B yX3_keepsMind (ws_ yX3_keepsMind cX3_keepsMind 3 none) (rmL 1 0 0) [.ref m] (tw m S t) (fun v S' => S' = tw m S (kM t fc ch)) (fun _ _ _ => False) := by
  refine Sp.of cX3_keepsMind 3 none [(0, .ref m)] rfl (Nat.le_of_ble_eq_true rfl) rfl fun g X Y hr hnm hgl hgD hgB hex => ?_
  subst hgl hgD hgB
  refine g_aload_n X 0 rfl rfl dX3_keepsMind_0 ?_
  refine g_getI (v := nI ch) X mC_X3 9 (by decide) q3515 (mm_same.rf rfl) rfl (tK0 hT) (tw_I.trans hch) dX3_keepsMind_1 ?_
  refine g_bipush X (nI 8) (by first | rfl | decide) dX3_keepsMind_4 ?_
  refine g_icmp_ne X dX3_keepsMind_6 (tgt := 32) (by decide) (fun h_6 => ?_) (fun h_6 => ?_)
  · replace h_6 := mt (nI_eq (by omega) (by omega)).mpr h_6
    refine g_aload_n X 0 rfl rfl dX3_keepsMind_32 ?_
    refine g_getI (v := nI fc) X mC_X3 10 (by decide) q3516 (mm_same.rf rfl) rfl (tK0 hT) (tw_I.trans hfc) dX3_keepsMind_33 ?_
    refine g_aload_n X 0 rfl rfl dX3_keepsMind_36 ?_
    refine g_getI (v := nI ch) X mC_X3 9 (by decide) q3515 (mm_same.rf rfl) rfl (tK0 hT) (tw_I.trans hch) dX3_keepsMind_37 ?_
    refine g_iaddN X rfl dX3_keepsMind_40 ?_
    refine g_bipush X (nI 8) (by first | rfl | decide) dX3_keepsMind_41 ?_
    refine g_iremN X (by omega) (by omega) (by omega) dX3_keepsMind_43 ?_
    refine g_istore_n (L' := [(1, .int (nI ((fc + ch) % 8))), (0, .ref m)]) X (by decide) rfl rfl dX3_keepsMind_44 ?_
    refine g_iconst X (nI 0) (by first | rfl | decide) dX3_keepsMind_45 ?_
    refine g_istore_n (L' := [(2, .int (nI 0)), (1, .int (nI ((fc + ch) % 8))), (0, .ref m)]) X (by decide) rfl rfl dX3_keepsMind_46 ?_
    have key_47t : ∀ (k9 i : Nat) , 132 < i + k9 → i ≤ 132 → G g 0 0 (tw m S (tws t 2 (cpa (t.2 4) (t.2 2) (132 * ((fc + ch) % 8)) i))) 47 [(2, .int (nI i)), (1, .int (nI ((fc + ch) % 8))), (0, .ref m)] [] := by
      intro k9
      induction k9 with
      | zero => intro i  a1 a2; omega
      | succ k9 ih_47 =>
        intro i  a1 a2
        refine g_iload_n X 0 rfl rfl dX3_keepsMind_47 ?_
        refine g_sipush X (nI 132) (by first | rfl | decide) dX3_keepsMind_48 ?_
        refine g_icmp_ge X dX3_keepsMind_51 (tgt := 78) (by decide) (fun h_51tL => ?_) (fun h_51tL => ?_)
        · replace h_51tL := (nI_leI (by omega) (by omega)).mp h_51tL
          refine g_aload_n X 2 rfl rfl dX3_keepsMind_78 ?_
          refine g_dup X rfl dX3_keepsMind_79 ?_
          refine g_getI (v := nI ch) X mC_X3 9 (by decide) q3515 (mm_same.rf rfl) rfl (tK0 hT) (tw_I.trans hch) dX3_keepsMind_80 ?_
          refine g_iconst X (nI 1) (by first | rfl | decide) dX3_keepsMind_83 ?_
          refine g_iaddN X rfl dX3_keepsMind_84 ?_
          refine g_putV (S' := tw m S (twf (tws t 2 (cpa (t.2 4) (t.2 2) (132 * ((fc + ch) % 8)) i)) 9 (nI (ch + 1)))) X mC_X3 9 (by decide) q3515 (mm_same.rf rfl) rfl (tK0 hT) (fun h => absurd h (by decide)) rfl rfl (.inl ⟨nI (ch + 1), rfl, rfl, tw_sI.symm⟩) dX3_keepsMind_85 ?_
          exact g_return X Y hr ⟨Nat.le_of_ble_eq_true rfl, Nat.le_of_ble_eq_true rfl⟩ dX3_keepsMind_88 (by
              have e : i = 132 := by omega
              subst e
              show tw m S (twf (tws t 2 (cpa (t.2 4) (t.2 2) (132 * ((fc + ch) % 8)) 132)) 9 (nI (ch + 1))) = tw m S (kM t fc ch)
              have e1 : kF fc ch = fc := if_neg h_6
              have e2 : kC ch = ch := if_neg h_6
              have e3 : kTo fc ch = (fc + ch) % 8 := by unfold kTo; rw [e1, e2]
              unfold kM
              rw [e3, e2, e1, twf_self (t := tws t 2 (cpa (t.2 4) (t.2 2) (132 * ((fc + ch) % 8)) 132)) hfc])
        · replace h_51tL := mt (nI_leI (by omega) (by omega)).mpr h_51tL
          refine g_aload_n X 2 rfl rfl dX3_keepsMind_54 ?_
          refine g_getR (v := some (m + 2)) X mC_X3 6 (by decide) q3512 (mm_same.rf rfl) rfl (tK0 hT) (tR2 hT) dX3_keepsMind_55 ?_
          refine g_sipush X (nI 132) (by first | rfl | decide) dX3_keepsMind_58 ?_
          refine g_iload_n X 1 rfl rfl dX3_keepsMind_61 ?_
          refine g_imulN X rfl dX3_keepsMind_62 ?_
          refine g_iload_n X 0 rfl rfl dX3_keepsMind_63 ?_
          refine g_iaddN X rfl dX3_keepsMind_64 ?_
          refine g_aload_n X 2 rfl rfl dX3_keepsMind_65 ?_
          refine g_getR (v := some (m + 4)) X mC_X3 8 (by decide) q3514 (mm_same.rf rfl) rfl (tK0 hT) (tR4 hT) dX3_keepsMind_66 ?_
          refine g_iload_n X 0 rfl rfl dX3_keepsMind_69 ?_
          refine g_iald (v := t.2 4 i) X (mm_ix.of rfl (by omega) (by omega)) (tK4 hT) (tw_A (by decide)) dX3_keepsMind_70 ?_
          refine g_iast (v := t.2 4 i) (S' := tw m S (tws (tws t 2 (cpa (t.2 4) (t.2 2) (132 * ((fc + ch) % 8)) i)) 2 (upd (cpa (t.2 4) (t.2 2) (132 * ((fc + ch) % 8)) i) (132 * ((fc + ch) % 8) + i) (t.2 4 i)))) X (mm_ix.of rfl (by omega) (by omega)) (tK2 hT) (tB2 hT) rfl (tw_sA (by decide)) dX3_keepsMind_71 ?_
          refine g_iinc (L' := [(2, .int (nI (i + 1))), (1, .int (nI ((fc + ch) % 8))), (0, .ref m)]) X 0 (nI (i + 1)) rfl (nI_1 _) (by decide) rfl dX3_keepsMind_72 ?_
          refine g_goto X dX3_keepsMind_75 (tgt := 47) (by decide) ?_
          refine G.mem (S' := tw m S (tws t 2 (cpa (t.2 4) (t.2 2) (132 * ((fc + ch) % 8)) (i + 1)))) (by rw [tws_tws, cpa_s]) ?_
          exact ih_47 (i + 1) (by omega) (by omega)
    refine G.mem (S' := tw m S (tws t 2 (cpa (t.2 4) (t.2 2) (132 * ((fc + ch) % 8)) 0))) (by rw [cpa_0, show (t.2 2 : Nat → Int32) = t.2 2 from rfl, tws_self]) ?_
    skip
    exact key_47t (132 + 1) 0  (by omega) (by omega)
  · replace h_6 := (nI_eq (by omega) (by omega)).mp h_6
    refine g_aload_n X 0 rfl rfl dX3_keepsMind_9 ?_
    refine g_aload_n X 0 rfl rfl dX3_keepsMind_10 ?_
    refine g_getI (v := nI fc) X mC_X3 10 (by decide) q3516 (mm_same.rf rfl) rfl (tK0 hT) (tw_I.trans hfc) dX3_keepsMind_11 ?_
    refine g_iconst X (nI 1) (by first | rfl | decide) dX3_keepsMind_14 ?_
    refine g_iaddN X rfl dX3_keepsMind_15 ?_
    refine g_bipush X (nI 8) (by first | rfl | decide) dX3_keepsMind_16 ?_
    refine g_iremN X (by omega) (by omega) (by omega) dX3_keepsMind_18 ?_
    refine g_putV (S' := tw m S (twf t 10 (nI ((fc + 1) % 8)))) X mC_X3 10 (by decide) q3516 (mm_same.rf rfl) rfl (tK0 hT) (fun h => absurd h (by decide)) rfl rfl (.inl ⟨nI ((fc + 1) % 8), rfl, rfl, tw_sI.symm⟩) dX3_keepsMind_19 ?_
    refine g_aload_n X 0 rfl rfl dX3_keepsMind_22 ?_
    refine g_dup X rfl dX3_keepsMind_23 ?_
    refine g_getI (v := nI ch) X mC_X3 9 (by decide) q3515 (mm_same.rf rfl) rfl (tK0 hT) (tw_I.trans hch) dX3_keepsMind_24 ?_
    refine g_iconst X (nI 1) (by first | rfl | decide) dX3_keepsMind_27 ?_
    refine g_isubN (z := 7) X (by omega) dX3_keepsMind_28 ?_
    refine g_putV (S' := tw m S (twf (twf t 10 (nI ((fc + 1) % 8))) 9 (nI (7)))) X mC_X3 9 (by decide) q3515 (mm_same.rf rfl) rfl (tK0 hT) (fun h => absurd h (by decide)) rfl rfl (.inl ⟨nI (7), rfl, rfl, tw_sI.symm⟩) dX3_keepsMind_29 ?_
    refine g_aload_n X 0 rfl rfl dX3_keepsMind_32 ?_
    refine g_getI (v := nI ((fc + 1) % 8)) X mC_X3 10 (by decide) q3516 (mm_same.rf rfl) rfl (tK0 hT) tw_I dX3_keepsMind_33 ?_
    refine g_aload_n X 0 rfl rfl dX3_keepsMind_36 ?_
    refine g_getI (v := nI (7)) X mC_X3 9 (by decide) q3515 (mm_same.rf rfl) rfl (tK0 hT) tw_I dX3_keepsMind_37 ?_
    refine g_iaddN X rfl dX3_keepsMind_40 ?_
    refine g_bipush X (nI 8) (by first | rfl | decide) dX3_keepsMind_41 ?_
    refine g_iremN X (by omega) (by omega) (by omega) dX3_keepsMind_43 ?_
    refine g_istore_n (L' := [(1, .int (nI (((fc + 1) % 8 + 7) % 8))), (0, .ref m)]) X (by decide) rfl rfl dX3_keepsMind_44 ?_
    refine g_iconst X (nI 0) (by first | rfl | decide) dX3_keepsMind_45 ?_
    refine g_istore_n (L' := [(2, .int (nI 0)), (1, .int (nI (((fc + 1) % 8 + 7) % 8))), (0, .ref m)]) X (by decide) rfl rfl dX3_keepsMind_46 ?_
    have key_47f : ∀ (k9 i : Nat) , 132 < i + k9 → i ≤ 132 → G g 0 0 (tw m S (tws (twf (twf t 10 (nI ((fc + 1) % 8))) 9 (nI (7))) 2 (cpa (t.2 4) (t.2 2) (132 * (((fc + 1) % 8 + 7) % 8)) i))) 47 [(2, .int (nI i)), (1, .int (nI (((fc + 1) % 8 + 7) % 8))), (0, .ref m)] [] := by
      intro k9
      induction k9 with
      | zero => intro i  a1 a2; omega
      | succ k9 ih_47 =>
        intro i  a1 a2
        refine g_iload_n X 0 rfl rfl dX3_keepsMind_47 ?_
        refine g_sipush X (nI 132) (by first | rfl | decide) dX3_keepsMind_48 ?_
        refine g_icmp_ge X dX3_keepsMind_51 (tgt := 78) (by decide) (fun h_51fL => ?_) (fun h_51fL => ?_)
        · replace h_51fL := (nI_leI (by omega) (by omega)).mp h_51fL
          refine g_aload_n X 2 rfl rfl dX3_keepsMind_78 ?_
          refine g_dup X rfl dX3_keepsMind_79 ?_
          refine g_getI (v := nI (7)) X mC_X3 9 (by decide) q3515 (mm_same.rf rfl) rfl (tK0 hT) tw_I dX3_keepsMind_80 ?_
          refine g_iconst X (nI 1) (by first | rfl | decide) dX3_keepsMind_83 ?_
          refine g_iaddN X rfl dX3_keepsMind_84 ?_
          refine g_putV (S' := tw m S (twf (tws (twf (twf t 10 (nI ((fc + 1) % 8))) 9 (nI (7))) 2 (cpa (t.2 4) (t.2 2) (132 * (((fc + 1) % 8 + 7) % 8)) i)) 9 (nI (8)))) X mC_X3 9 (by decide) q3515 (mm_same.rf rfl) rfl (tK0 hT) (fun h => absurd h (by decide)) rfl rfl (.inl ⟨nI (8), rfl, rfl, tw_sI.symm⟩) dX3_keepsMind_85 ?_
          exact g_return X Y hr ⟨Nat.le_of_ble_eq_true rfl, Nat.le_of_ble_eq_true rfl⟩ dX3_keepsMind_88 (by
              have e : i = 132 := by omega
              subst e
              have e1 : kF fc ch = (fc + 1) % 8 := if_pos h_6
              have e2 : kC ch = 7 := if_pos h_6
              have e3 : kTo fc ch = ((fc + 1) % 8 + 7) % 8 := by unfold kTo; rw [e1, e2]
              unfold kM
              rw [e3, e2, e1]
              exact congrArg (tw m S) (twf_twf (t := twf (tws t 2 (cpa (t.2 4) (t.2 2) (132 * (((fc + 1) % 8 + 7) % 8)) 132)) 10 (nI ((fc + 1) % 8))) (k := 9)))
        · replace h_51fL := mt (nI_leI (by omega) (by omega)).mpr h_51fL
          refine g_aload_n X 2 rfl rfl dX3_keepsMind_54 ?_
          refine g_getR (v := some (m + 2)) X mC_X3 6 (by decide) q3512 (mm_same.rf rfl) rfl (tK0 hT) (tR2 hT) dX3_keepsMind_55 ?_
          refine g_sipush X (nI 132) (by first | rfl | decide) dX3_keepsMind_58 ?_
          refine g_iload_n X 1 rfl rfl dX3_keepsMind_61 ?_
          refine g_imulN X rfl dX3_keepsMind_62 ?_
          refine g_iload_n X 0 rfl rfl dX3_keepsMind_63 ?_
          refine g_iaddN X rfl dX3_keepsMind_64 ?_
          refine g_aload_n X 2 rfl rfl dX3_keepsMind_65 ?_
          refine g_getR (v := some (m + 4)) X mC_X3 8 (by decide) q3514 (mm_same.rf rfl) rfl (tK0 hT) (tR4 hT) dX3_keepsMind_66 ?_
          refine g_iload_n X 0 rfl rfl dX3_keepsMind_69 ?_
          refine g_iald (v := t.2 4 i) X (mm_ix.of rfl (by omega) (by omega)) (tK4 hT) (tw_A (by decide)) dX3_keepsMind_70 ?_
          refine g_iast (v := t.2 4 i) (S' := tw m S (tws (tws (twf (twf t 10 (nI ((fc + 1) % 8))) 9 (nI (7))) 2 (cpa (t.2 4) (t.2 2) (132 * (((fc + 1) % 8 + 7) % 8)) i)) 2 (upd (cpa (t.2 4) (t.2 2) (132 * (((fc + 1) % 8 + 7) % 8)) i) (132 * (((fc + 1) % 8 + 7) % 8) + i) (t.2 4 i)))) X (mm_ix.of rfl (by omega) (by omega)) (tK2 hT) (tB2 hT) rfl (tw_sA (by decide)) dX3_keepsMind_71 ?_
          refine g_iinc (L' := [(2, .int (nI (i + 1))), (1, .int (nI (((fc + 1) % 8 + 7) % 8))), (0, .ref m)]) X 0 (nI (i + 1)) rfl (nI_1 _) (by decide) rfl dX3_keepsMind_72 ?_
          refine g_goto X dX3_keepsMind_75 (tgt := 47) (by decide) ?_
          refine G.mem (S' := tw m S (tws (twf (twf t 10 (nI ((fc + 1) % 8))) 9 (nI (7))) 2 (cpa (t.2 4) (t.2 2) (132 * (((fc + 1) % 8 + 7) % 8)) (i + 1)))) (by rw [tws_tws, cpa_s]) ?_
          exact ih_47 (i + 1) (by omega) (by omega)
    refine G.mem (S' := tw m S (tws (twf (twf t 10 (nI ((fc + 1) % 8))) 9 (nI (7))) 2 (cpa (t.2 4) (t.2 2) (132 * (((fc + 1) % 8 + 7) % 8)) 0))) (by rw [cpa_0, show (t.2 2 : Nat → Int32) = (twf (twf t 10 (nI ((fc + 1) % 8))) 9 (nI (7))).2 2 from rfl, tws_self]) ?_
    skip
    exact key_47f (132 + 1) 0  (by omega) (by omega)
set_option maxHeartbeats 4000000 in
set_option maxRecDepth 100000 in
theorem sp_X3_remembers (l : Launch) (D : Dg) (B : Nat) (m : Nat) (S : Mm) (t : Tw) (hT : twK B S m) (fc ch : Nat) (hfc : t.1 10 = nI fc) (hfc8 : fc < 8) (hch : t.1 9 = nI ch) (hch8 : ch ≤ 8) : Sp eV l D B yX3_remembers (ws_ yX3_remembers cX3_remembers 1 none) (rmL 2 0 0) [.ref m] (tw m S t) (fun v S' => S' = tw m S (rem t fc ch)) (fun _ _ _ => False) := by
  refine Sp.of cX3_remembers 1 none [(0, .ref m)] rfl (Nat.le_of_ble_eq_true rfl) rfl fun g X Y hr hnm hgl hgD hgB hex => ?_
  subst hgl hgD hgB
  refine g_aload_n X 0 rfl rfl dX3_remembers_0 ?_
  refine g_callV (st := []) X (sp_X3_thinks _ _ _ m S t hT ) q3590 q3592 qs50 q119 q3593 ⟨rfl, (mm_npk 0 rfl (by decide +kernel))⟩ ⟨⟨Nat.le_of_ble_eq_true rfl, Nat.le_of_ble_eq_true rfl⟩, Nat.le_of_ble_eq_true rfl, Nat.le_of_ble_eq_true rfl⟩ mC_X3 (tK0 hT) rfl (Nat.le_of_ble_eq_true rfl) dX3_remembers_1 (fun _ _ _ h => False.elim h) (fun v_1 S_1 p_1 => ?_)
  obtain rfl := p_1
  refine G.eq (show _ = ([] : List Value) from rfl) ?_
  refine g_aload_n X 0 rfl rfl dX3_remembers_4 ?_
  refine g_callV (st := []) X (sp_X3_keepsMind _ _ _ m S (tws t 4 (cp (t.2 1) (t.2 4) 132)) hT fc ch hfc hfc8 hch hch8) q3594 q3596 qs51 q119 q3597 ⟨rfl, (mm_npk 0 rfl (by decide +kernel))⟩ ⟨⟨Nat.le_of_ble_eq_true rfl, Nat.le_of_ble_eq_true rfl⟩, Nat.le_of_ble_eq_true rfl, Nat.le_of_ble_eq_true rfl⟩ mC_X3 (tK0 hT) rfl (Nat.le_of_ble_eq_true rfl) dX3_remembers_5 (fun _ _ _ h => False.elim h) (fun v_5 S_5 p_5 => ?_)
  obtain rfl := p_5
  refine G.eq (show _ = ([] : List Value) from rfl) ?_
  exact g_return X Y hr ⟨Nat.le_of_ble_eq_true rfl, Nat.le_of_ble_eq_true rfl⟩ dX3_remembers_8 (rfl)
set_option maxHeartbeats 4000000 in
set_option maxRecDepth 100000 in
theorem sp_X3_ofPool (l : Launch) (D : Dg) (B : Nat) (m : Nat) (S : Mm) (t : Tw) (hT : twK B S m) (p k : Nat) (hp : 16 + 10 * p + k < 132) : Sp eI l D B yX3_ofPool (ws_ yX3_ofPool cX3_ofPool 3 (some .int)) (rmL 1 0 0) [.ref m, .int (nI p), .int (nI k)] (tw m S t) (fun v S' => v = t.2 1 (16 + 10 * p + k) ∧ S' = tw m S t) (fun _ _ _ => False) := by
  refine Sp.of cX3_ofPool 3 (some .int) [(0, .ref m), (1, .int (nI p)), (2, .int (nI k))] rfl (Nat.le_of_ble_eq_true rfl) rfl fun g X Y hr hnm hgl hgD hgB hex => ?_
  subst hgl hgD hgB
  refine g_aload_n X 0 rfl rfl dX3_ofPool_0 ?_
  refine g_getR (v := some (m + 1)) X mC_X3 5 (by decide) q3511 (mm_same.rf rfl) rfl (tK0 hT) (tR1 hT) dX3_ofPool_1 ?_
  refine g_bipush X (nI 16) (by first | rfl | decide) dX3_ofPool_4 ?_
  refine g_bipush X (nI 10) (by first | rfl | decide) dX3_ofPool_6 ?_
  refine g_iload_n X 1 rfl rfl dX3_ofPool_8 ?_
  refine g_imulN X rfl dX3_ofPool_9 ?_
  refine g_iaddN X rfl dX3_ofPool_10 ?_
  refine g_iload_n X 2 rfl rfl dX3_ofPool_11 ?_
  refine g_iaddN X rfl dX3_ofPool_12 ?_
  refine g_iald (v := t.2 1 (16 + 10 * p + k)) X (mm_ix.of rfl (by omega) (by omega)) (tK1 hT) (tw_A (by decide)) dX3_ofPool_13 ?_
  exact g_ireturn X Y hr rfl ⟨Nat.le_of_ble_eq_true rfl, Nat.le_of_ble_eq_true rfl⟩ dX3_ofPool_14 (⟨rfl, rfl⟩)
set_option maxHeartbeats 4000000 in
set_option maxRecDepth 100000 in
theorem sp_X3_addsPool (l : Launch) (D : Dg) (B : Nat) (m : Nat) (S : Mm) (t : Tw) (hT : twK B S m) (p k : Nat) (hp : 16 + 10 * p + k < 132) (x : Int32) : Sp eV l D B yX3_addsPool (ws_ yX3_addsPool cX3_addsPool 4 none) (rmL 1 0 0) [.ref m, .int (nI p), .int (nI k), .int x] (tw m S t) (fun v S' => S' = tw m S (tws t 1 (upd (t.2 1) (16 + 10 * p + k) (t.2 1 (16 + 10 * p + k) + x)))) (fun _ _ _ => False) := by
  refine Sp.of cX3_addsPool 4 none [(0, .ref m), (1, .int (nI p)), (2, .int (nI k)), (3, .int x)] rfl (Nat.le_of_ble_eq_true rfl) rfl fun g X Y hr hnm hgl hgD hgB hex => ?_
  subst hgl hgD hgB
  refine g_aload_n X 0 rfl rfl dX3_addsPool_0 ?_
  refine g_getR (v := some (m + 1)) X mC_X3 5 (by decide) q3511 (mm_same.rf rfl) rfl (tK0 hT) (tR1 hT) dX3_addsPool_1 ?_
  refine g_bipush X (nI 16) (by first | rfl | decide) dX3_addsPool_4 ?_
  refine g_bipush X (nI 10) (by first | rfl | decide) dX3_addsPool_6 ?_
  refine g_iload_n X 1 rfl rfl dX3_addsPool_8 ?_
  refine g_imulN X rfl dX3_addsPool_9 ?_
  refine g_iaddN X rfl dX3_addsPool_10 ?_
  refine g_iload_n X 2 rfl rfl dX3_addsPool_11 ?_
  refine g_iaddN X rfl dX3_addsPool_12 ?_
  refine g_dup2 X rfl rfl dX3_addsPool_13 ?_
  refine g_iald (v := t.2 1 (16 + 10 * p + k)) X (mm_ix.of rfl (by omega) (by omega)) (tK1 hT) (tw_A (by decide)) dX3_addsPool_14 ?_
  refine g_iload_n X 3 rfl rfl dX3_addsPool_15 ?_
  refine g_iadd X dX3_addsPool_16 ?_
  refine g_iast (v := (t.2 1 (16 + 10 * p + k)) + x) (S' := tw m S (tws t 1 (upd (t.2 1) (16 + 10 * p + k) ((t.2 1 (16 + 10 * p + k)) + x)))) X (mm_ix.of rfl (by omega) (by omega)) (tK1 hT) (tB1 hT) rfl (tw_sA (by decide)) dX3_addsPool_17 ?_
  exact g_return X Y hr ⟨Nat.le_of_ble_eq_true rfl, Nat.le_of_ble_eq_true rfl⟩ dX3_addsPool_18 (rfl)
set_option maxHeartbeats 4000000 in
set_option maxRecDepth 100000 in
theorem sp_X3_sizeOf (l : Launch) (D : Dg) (B : Nat) (m : Nat) (S : Mm) (t : Tw) (hT : twK B S m) (p k : Nat) (hp : 16 + 10 * p + 3 + k < 132) : Sp eI l D B yX3_sizeOf (ws_ yX3_sizeOf cX3_sizeOf 3 (some .int)) (rmL 1 0 0) [.ref m, .int (nI p), .int (nI k)] (tw m S t) (fun v S' => v = t.2 1 (16 + 10 * p + 3 + k) ∧ S' = tw m S t) (fun _ _ _ => False) := by
  refine Sp.of cX3_sizeOf 3 (some .int) [(0, .ref m), (1, .int (nI p)), (2, .int (nI k))] rfl (Nat.le_of_ble_eq_true rfl) rfl fun g X Y hr hnm hgl hgD hgB hex => ?_
  subst hgl hgD hgB
  refine g_aload_n X 0 rfl rfl dX3_sizeOf_0 ?_
  refine g_getR (v := some (m + 1)) X mC_X3 5 (by decide) q3511 (mm_same.rf rfl) rfl (tK0 hT) (tR1 hT) dX3_sizeOf_1 ?_
  refine g_bipush X (nI 16) (by first | rfl | decide) dX3_sizeOf_4 ?_
  refine g_bipush X (nI 10) (by first | rfl | decide) dX3_sizeOf_6 ?_
  refine g_iload_n X 1 rfl rfl dX3_sizeOf_8 ?_
  refine g_imulN X rfl dX3_sizeOf_9 ?_
  refine g_iaddN X rfl dX3_sizeOf_10 ?_
  refine g_iconst X (nI 3) (by first | rfl | decide) dX3_sizeOf_11 ?_
  refine g_iaddN X rfl dX3_sizeOf_12 ?_
  refine g_iload_n X 2 rfl rfl dX3_sizeOf_13 ?_
  refine g_iaddN X rfl dX3_sizeOf_14 ?_
  refine g_iald (v := t.2 1 (16 + 10 * p + 3 + k)) X (mm_ix.of rfl (by omega) (by omega)) (tK1 hT) (tw_A (by decide)) dX3_sizeOf_15 ?_
  exact g_ireturn X Y hr rfl ⟨Nat.le_of_ble_eq_true rfl, Nat.le_of_ble_eq_true rfl⟩ dX3_sizeOf_16 (⟨rfl, rfl⟩)
set_option maxHeartbeats 4000000 in
set_option maxRecDepth 100000 in
theorem sp_X3_ofStone (l : Launch) (D : Dg) (B : Nat) (m : Nat) (S : Mm) (t : Tw) (hT : twK B S m) (s k : Nat) (hs : 76 + 5 * s + k < 132) : Sp eI l D B yX3_ofStone (ws_ yX3_ofStone cX3_ofStone 3 (some .int)) (rmL 1 0 0) [.ref m, .int (nI s), .int (nI k)] (tw m S t) (fun v S' => v = t.2 1 (76 + 5 * s + k) ∧ S' = tw m S t) (fun _ _ _ => False) := by
  refine Sp.of cX3_ofStone 3 (some .int) [(0, .ref m), (1, .int (nI s)), (2, .int (nI k))] rfl (Nat.le_of_ble_eq_true rfl) rfl fun g X Y hr hnm hgl hgD hgB hex => ?_
  subst hgl hgD hgB
  refine g_aload_n X 0 rfl rfl dX3_ofStone_0 ?_
  refine g_getR (v := some (m + 1)) X mC_X3 5 (by decide) q3511 (mm_same.rf rfl) rfl (tK0 hT) (tR1 hT) dX3_ofStone_1 ?_
  refine g_bipush X (nI 76) (by first | rfl | decide) dX3_ofStone_4 ?_
  refine g_iconst X (nI 5) (by first | rfl | decide) dX3_ofStone_6 ?_
  refine g_iload_n X 1 rfl rfl dX3_ofStone_7 ?_
  refine g_imulN X rfl dX3_ofStone_8 ?_
  refine g_iaddN X rfl dX3_ofStone_9 ?_
  refine g_iload_n X 2 rfl rfl dX3_ofStone_10 ?_
  refine g_iaddN X rfl dX3_ofStone_11 ?_
  refine g_iald (v := t.2 1 (76 + 5 * s + k)) X (mm_ix.of rfl (by omega) (by omega)) (tK1 hT) (tw_A (by decide)) dX3_ofStone_12 ?_
  exact g_ireturn X Y hr rfl ⟨Nat.le_of_ble_eq_true rfl, Nat.le_of_ble_eq_true rfl⟩ dX3_ofStone_13 (⟨rfl, rfl⟩)
set_option maxHeartbeats 4000000 in
set_option maxRecDepth 100000 in
theorem sp_X3_setsStone (l : Launch) (D : Dg) (B : Nat) (m : Nat) (S : Mm) (t : Tw) (hT : twK B S m) (s k : Nat) (hs : 76 + 5 * s + k < 132) (x : Int32) : Sp eV l D B yX3_setsStone (ws_ yX3_setsStone cX3_setsStone 4 none) (rmL 1 0 0) [.ref m, .int (nI s), .int (nI k), .int x] (tw m S t) (fun v S' => S' = tw m S (tws t 1 (upd (t.2 1) (76 + 5 * s + k) x))) (fun _ _ _ => False) := by
  refine Sp.of cX3_setsStone 4 none [(0, .ref m), (1, .int (nI s)), (2, .int (nI k)), (3, .int x)] rfl (Nat.le_of_ble_eq_true rfl) rfl fun g X Y hr hnm hgl hgD hgB hex => ?_
  subst hgl hgD hgB
  refine g_aload_n X 0 rfl rfl dX3_setsStone_0 ?_
  refine g_getR (v := some (m + 1)) X mC_X3 5 (by decide) q3511 (mm_same.rf rfl) rfl (tK0 hT) (tR1 hT) dX3_setsStone_1 ?_
  refine g_bipush X (nI 76) (by first | rfl | decide) dX3_setsStone_4 ?_
  refine g_iconst X (nI 5) (by first | rfl | decide) dX3_setsStone_6 ?_
  refine g_iload_n X 1 rfl rfl dX3_setsStone_7 ?_
  refine g_imulN X rfl dX3_setsStone_8 ?_
  refine g_iaddN X rfl dX3_setsStone_9 ?_
  refine g_iload_n X 2 rfl rfl dX3_setsStone_10 ?_
  refine g_iaddN X rfl dX3_setsStone_11 ?_
  refine g_iload_n X 3 rfl rfl dX3_setsStone_12 ?_
  refine g_iast (v := x) (S' := tw m S (tws t 1 (upd (t.2 1) (76 + 5 * s + k) x))) X (mm_ix.of rfl (by omega) (by omega)) (tK1 hT) (tB1 hT) rfl (tw_sA (by decide)) dX3_setsStone_13 ?_
  exact g_return X Y hr ⟨Nat.le_of_ble_eq_true rfl, Nat.le_of_ble_eq_true rfl⟩ dX3_setsStone_14 (rfl)
set_option maxHeartbeats 4000000 in
set_option maxRecDepth 100000 in
theorem sp_X3_minutesOf (l : Launch) (D : Dg) (B : Nat) (m : Nat) (S : Mm) (t : Tw) (hT : twK B S m) (k : Nat) (hk : 124 + 2 * k + 1 < 132) : Sp eI l D B yX3_minutesOf (ws_ yX3_minutesOf cX3_minutesOf 2 (some .int)) (rmL 1 0 0) [.ref m, .int (nI k)] (tw m S t) (fun v S' => v = t.2 1 (124 + 2 * k + 1) ∧ S' = tw m S t) (fun _ _ _ => False) := by
  refine Sp.of cX3_minutesOf 2 (some .int) [(0, .ref m), (1, .int (nI k))] rfl (Nat.le_of_ble_eq_true rfl) rfl fun g X Y hr hnm hgl hgD hgB hex => ?_
  subst hgl hgD hgB
  refine g_aload_n X 0 rfl rfl dX3_minutesOf_0 ?_
  refine g_getR (v := some (m + 1)) X mC_X3 5 (by decide) q3511 (mm_same.rf rfl) rfl (tK0 hT) (tR1 hT) dX3_minutesOf_1 ?_
  refine g_bipush X (nI 124) (by first | rfl | decide) dX3_minutesOf_4 ?_
  refine g_iconst X (nI 2) (by first | rfl | decide) dX3_minutesOf_6 ?_
  refine g_iload_n X 1 rfl rfl dX3_minutesOf_7 ?_
  refine g_imulN X rfl dX3_minutesOf_8 ?_
  refine g_iaddN X rfl dX3_minutesOf_9 ?_
  refine g_iconst X (nI 1) (by first | rfl | decide) dX3_minutesOf_10 ?_
  refine g_iaddN X rfl dX3_minutesOf_11 ?_
  refine g_iald (v := t.2 1 (124 + 2 * k + 1)) X (mm_ix.of rfl (by omega) (by omega)) (tK1 hT) (tw_A (by decide)) dX3_minutesOf_12 ?_
  exact g_ireturn X Y hr rfl ⟨Nat.le_of_ble_eq_true rfl, Nat.le_of_ble_eq_true rfl⟩ dX3_minutesOf_13 (⟨rfl, rfl⟩)
set_option maxHeartbeats 4000000 in
set_option maxRecDepth 100000 in
theorem sp_X3_isPool (l : Launch) (D : Dg) (B : Nat) (m : Nat) (S : Mm) (t : Tw) (hT : twK B S m) (x : Int32) (n : Nat) (hn : t.2 1 1 = nI n) (hn9 : n < 100) : Sp eI l D B yX3_isPool (ws_ yX3_isPool cX3_isPool 2 (some .boolean)) (rmL 2 0 0) [.ref m, .int x] (tw m S t) (fun v S' => v = bI (ixb x n) ∧ S' = tw m S t) (fun _ _ _ => False) := by
  refine Sp.of cX3_isPool 2 (some .boolean) [(0, .ref m), (1, .int x)] rfl (Nat.le_of_ble_eq_true rfl) rfl fun g X Y hr hnm hgl hgD hgB hex => ?_
  subst hgl hgD hgB
  refine g_iload_n X 1 rfl rfl dX3_isPool_0 ?_
  refine g_iconst X (nI 0) (by first | rfl | decide) dX3_isPool_1 ?_
  refine g_aload_n X 0 rfl rfl dX3_isPool_2 ?_
  refine g_getR (v := some (m + 1)) X mC_X3 5 (by decide) q3511 (mm_same.rf rfl) rfl (tK0 hT) (tR1 hT) dX3_isPool_3 ?_
  refine g_iconst X (nI 1) (by first | rfl | decide) dX3_isPool_6 ?_
  refine g_iald (v := nI n) X (mm_ix.of rfl (by omega) (by omega)) (tK1 hT) ((tw_A (by decide)).trans (show t.2 1 1 = nI n from hn)) dX3_isPool_7 ?_
  refine g_iconst X (nI 1) (by first | rfl | decide) dX3_isPool_8 ?_
  refine g_isub X dX3_isPool_9 ?_
  refine g_callS (st := []) X (sp_X3_isBetween _ _ _ (tw m S t) x (nI 0) (nI n - nI 1)) q3575 q3576 q119 q3577 (mm_npk 3 rfl (by decide +kernel)) ⟨⟨Nat.le_of_ble_eq_true rfl, Nat.le_of_ble_eq_true rfl⟩, Nat.le_of_ble_eq_true rfl, Nat.le_of_ble_eq_true rfl⟩ rfl (Nat.le_of_ble_eq_true rfl) dX3_isPool_10 (fun _ _ _ h => False.elim h) (fun v_10 S_10 p_10 => ?_)
  obtain ⟨p_10, rfl⟩ := p_10
  rw [bI_c (btw (by omega))] at p_10
  subst p_10
  refine G.eq (show _ = ([.int (bI (ixb x n))] : List Value) from rfl) ?_
  exact g_ireturn X Y hr bI_nar ⟨Nat.le_of_ble_eq_true rfl, Nat.le_of_ble_eq_true rfl⟩ dX3_isPool_13 (⟨rfl, rfl⟩)
set_option maxHeartbeats 4000000 in
set_option maxRecDepth 100000 in
theorem sp_X3_isStone (l : Launch) (D : Dg) (B : Nat) (m : Nat) (S : Mm) (t : Tw) (hT : twK B S m) (x : Int32) (n : Nat) (hn : t.2 1 2 = nI n) (hn9 : n < 100) : Sp eI l D B yX3_isStone (ws_ yX3_isStone cX3_isStone 2 (some .boolean)) (rmL 2 0 0) [.ref m, .int x] (tw m S t) (fun v S' => v = bI (ixb x n) ∧ S' = tw m S t) (fun _ _ _ => False) := by
  refine Sp.of cX3_isStone 2 (some .boolean) [(0, .ref m), (1, .int x)] rfl (Nat.le_of_ble_eq_true rfl) rfl fun g X Y hr hnm hgl hgD hgB hex => ?_
  subst hgl hgD hgB
  refine g_iload_n X 1 rfl rfl dX3_isStone_0 ?_
  refine g_iconst X (nI 0) (by first | rfl | decide) dX3_isStone_1 ?_
  refine g_aload_n X 0 rfl rfl dX3_isStone_2 ?_
  refine g_getR (v := some (m + 1)) X mC_X3 5 (by decide) q3511 (mm_same.rf rfl) rfl (tK0 hT) (tR1 hT) dX3_isStone_3 ?_
  refine g_iconst X (nI 2) (by first | rfl | decide) dX3_isStone_6 ?_
  refine g_iald (v := nI n) X (mm_ix.of rfl (by omega) (by omega)) (tK1 hT) ((tw_A (by decide)).trans (show t.2 1 2 = nI n from hn)) dX3_isStone_7 ?_
  refine g_iconst X (nI 1) (by first | rfl | decide) dX3_isStone_8 ?_
  refine g_isub X dX3_isStone_9 ?_
  refine g_callS (st := []) X (sp_X3_isBetween _ _ _ (tw m S t) x (nI 0) (nI n - nI 1)) q3575 q3576 q119 q3577 (mm_npk 3 rfl (by decide +kernel)) ⟨⟨Nat.le_of_ble_eq_true rfl, Nat.le_of_ble_eq_true rfl⟩, Nat.le_of_ble_eq_true rfl, Nat.le_of_ble_eq_true rfl⟩ rfl (Nat.le_of_ble_eq_true rfl) dX3_isStone_10 (fun _ _ _ h => False.elim h) (fun v_10 S_10 p_10 => ?_)
  obtain ⟨p_10, rfl⟩ := p_10
  rw [bI_c (btw (by omega))] at p_10
  subst p_10
  refine G.eq (show _ = ([.int (bI (ixb x n))] : List Value) from rfl) ?_
  exact g_ireturn X Y hr bI_nar ⟨Nat.le_of_ble_eq_true rfl, Nat.le_of_ble_eq_true rfl⟩ dX3_isStone_13 (⟨rfl, rfl⟩)
set_option maxHeartbeats 4000000 in
set_option maxRecDepth 100000 in
theorem sp_X3_isLamp (l : Launch) (D : Dg) (B : Nat) (m : Nat) (S : Mm) (t : Tw) (hT : twK B S m) (x : Int32) (n : Nat) (hn : t.2 1 3 = nI n) (hn9 : n < 100) : Sp eI l D B yX3_isLamp (ws_ yX3_isLamp cX3_isLamp 2 (some .boolean)) (rmL 2 0 0) [.ref m, .int x] (tw m S t) (fun v S' => v = bI (ixb x n) ∧ S' = tw m S t) (fun _ _ _ => False) := by
  refine Sp.of cX3_isLamp 2 (some .boolean) [(0, .ref m), (1, .int x)] rfl (Nat.le_of_ble_eq_true rfl) rfl fun g X Y hr hnm hgl hgD hgB hex => ?_
  subst hgl hgD hgB
  refine g_iload_n X 1 rfl rfl dX3_isLamp_0 ?_
  refine g_iconst X (nI 0) (by first | rfl | decide) dX3_isLamp_1 ?_
  refine g_aload_n X 0 rfl rfl dX3_isLamp_2 ?_
  refine g_getR (v := some (m + 1)) X mC_X3 5 (by decide) q3511 (mm_same.rf rfl) rfl (tK0 hT) (tR1 hT) dX3_isLamp_3 ?_
  refine g_iconst X (nI 3) (by first | rfl | decide) dX3_isLamp_6 ?_
  refine g_iald (v := nI n) X (mm_ix.of rfl (by omega) (by omega)) (tK1 hT) ((tw_A (by decide)).trans (show t.2 1 3 = nI n from hn)) dX3_isLamp_7 ?_
  refine g_iconst X (nI 1) (by first | rfl | decide) dX3_isLamp_8 ?_
  refine g_isub X dX3_isLamp_9 ?_
  refine g_callS (st := []) X (sp_X3_isBetween _ _ _ (tw m S t) x (nI 0) (nI n - nI 1)) q3575 q3576 q119 q3577 (mm_npk 3 rfl (by decide +kernel)) ⟨⟨Nat.le_of_ble_eq_true rfl, Nat.le_of_ble_eq_true rfl⟩, Nat.le_of_ble_eq_true rfl, Nat.le_of_ble_eq_true rfl⟩ rfl (Nat.le_of_ble_eq_true rfl) dX3_isLamp_10 (fun _ _ _ h => False.elim h) (fun v_10 S_10 p_10 => ?_)
  obtain ⟨p_10, rfl⟩ := p_10
  rw [bI_c (btw (by omega))] at p_10
  subst p_10
  refine G.eq (show _ = ([.int (bI (ixb x n))] : List Value) from rfl) ?_
  exact g_ireturn X Y hr bI_nar ⟨Nat.le_of_ble_eq_true rfl, Nat.le_of_ble_eq_true rfl⟩ dX3_isLamp_13 (⟨rfl, rfl⟩)
set_option maxHeartbeats 4000000 in
set_option maxRecDepth 100000 in
theorem sp_X3_isGroup (l : Launch) (D : Dg) (B : Nat) (m : Nat) (S : Mm) (t : Tw) (hT : twK B S m) (x : Int32) (n : Nat) (hn : t.2 1 4 = nI n) (hn9 : n < 100) : Sp eI l D B yX3_isGroup (ws_ yX3_isGroup cX3_isGroup 2 (some .boolean)) (rmL 2 0 0) [.ref m, .int x] (tw m S t) (fun v S' => v = bI (ixb x n) ∧ S' = tw m S t) (fun _ _ _ => False) := by
  refine Sp.of cX3_isGroup 2 (some .boolean) [(0, .ref m), (1, .int x)] rfl (Nat.le_of_ble_eq_true rfl) rfl fun g X Y hr hnm hgl hgD hgB hex => ?_
  subst hgl hgD hgB
  refine g_iload_n X 1 rfl rfl dX3_isGroup_0 ?_
  refine g_iconst X (nI 0) (by first | rfl | decide) dX3_isGroup_1 ?_
  refine g_aload_n X 0 rfl rfl dX3_isGroup_2 ?_
  refine g_getR (v := some (m + 1)) X mC_X3 5 (by decide) q3511 (mm_same.rf rfl) rfl (tK0 hT) (tR1 hT) dX3_isGroup_3 ?_
  refine g_iconst X (nI 4) (by first | rfl | decide) dX3_isGroup_6 ?_
  refine g_iald (v := nI n) X (mm_ix.of rfl (by omega) (by omega)) (tK1 hT) ((tw_A (by decide)).trans (show t.2 1 4 = nI n from hn)) dX3_isGroup_7 ?_
  refine g_iconst X (nI 1) (by first | rfl | decide) dX3_isGroup_8 ?_
  refine g_isub X dX3_isGroup_9 ?_
  refine g_callS (st := []) X (sp_X3_isBetween _ _ _ (tw m S t) x (nI 0) (nI n - nI 1)) q3575 q3576 q119 q3577 (mm_npk 3 rfl (by decide +kernel)) ⟨⟨Nat.le_of_ble_eq_true rfl, Nat.le_of_ble_eq_true rfl⟩, Nat.le_of_ble_eq_true rfl, Nat.le_of_ble_eq_true rfl⟩ rfl (Nat.le_of_ble_eq_true rfl) dX3_isGroup_10 (fun _ _ _ h => False.elim h) (fun v_10 S_10 p_10 => ?_)
  obtain ⟨p_10, rfl⟩ := p_10
  rw [bI_c (btw (by omega))] at p_10
  subst p_10
  refine G.eq (show _ = ([.int (bI (ixb x n))] : List Value) from rfl) ?_
  exact g_ireturn X Y hr bI_nar ⟨Nat.le_of_ble_eq_true rfl, Nat.le_of_ble_eq_true rfl⟩ dX3_isGroup_13 (⟨rfl, rfl⟩)
set_option maxHeartbeats 4000000 in
set_option maxRecDepth 100000 in
theorem sp_X3_isPlace (l : Launch) (D : Dg) (B : Nat) (m : Nat) (S : Mm) (t : Tw) (hT : twK B S m) (p : Nat) (hp : 16 + 10 * p + 2 < 132) (x : Int32) (n : Nat) (hn : t.2 1 (16 + 10 * p + 2) = nI n) (hn9 : n < 100) : Sp eI l D B yX3_isPlace (ws_ yX3_isPlace cX3_isPlace 3 (some .boolean)) (rmL 2 0 0) [.ref m, .int (nI p), .int x] (tw m S t) (fun v S' => v = bI (ixb x n) ∧ S' = tw m S t) (fun _ _ _ => False) := by
  refine Sp.of cX3_isPlace 3 (some .boolean) [(0, .ref m), (1, .int (nI p)), (2, .int x)] rfl (Nat.le_of_ble_eq_true rfl) rfl fun g X Y hr hnm hgl hgD hgB hex => ?_
  subst hgl hgD hgB
  refine g_iload_n X 2 rfl rfl dX3_isPlace_0 ?_
  refine g_iconst X (nI 0) (by first | rfl | decide) dX3_isPlace_1 ?_
  refine g_aload_n X 0 rfl rfl dX3_isPlace_2 ?_
  refine g_iload_n X 1 rfl rfl dX3_isPlace_3 ?_
  refine g_iconst X (nI 2) (by first | rfl | decide) dX3_isPlace_4 ?_
  refine g_callV (st := [.int (nI 0), .int x]) X (sp_X3_ofPool _ _ _ m S t hT p 2 (by omega)) q3606 q3608 qs53 q119 q3609 ⟨rfl, (mm_npk 2 rfl (by decide +kernel))⟩ ⟨⟨Nat.le_of_ble_eq_true rfl, Nat.le_of_ble_eq_true rfl⟩, Nat.le_of_ble_eq_true rfl, Nat.le_of_ble_eq_true rfl⟩ mC_X3 (tK0 hT) rfl (Nat.le_of_ble_eq_true rfl) dX3_isPlace_5 (fun _ _ _ h => False.elim h) (fun v_5 S_5 p_5 => ?_)
  obtain ⟨rfl, rfl⟩ := p_5
  refine G.eq (show _ = ([.int (nI n), .int (nI 0), .int x] : List Value) by rw [hn]; rfl) ?_
  refine g_iconst X (nI 1) (by first | rfl | decide) dX3_isPlace_8 ?_
  refine g_isub X dX3_isPlace_9 ?_
  refine g_callS (st := []) X (sp_X3_isBetween _ _ _ (tw m S t) x (nI 0) (nI n - nI 1)) q3575 q3576 q119 q3577 (mm_npk 3 rfl (by decide +kernel)) ⟨⟨Nat.le_of_ble_eq_true rfl, Nat.le_of_ble_eq_true rfl⟩, Nat.le_of_ble_eq_true rfl, Nat.le_of_ble_eq_true rfl⟩ rfl (Nat.le_of_ble_eq_true rfl) dX3_isPlace_10 (fun _ _ _ h => False.elim h) (fun v_10 S_10 p_10 => ?_)
  obtain ⟨p_10, rfl⟩ := p_10
  rw [bI_c (btw (by omega))] at p_10
  subst p_10
  refine G.eq (show _ = ([.int (bI (ixb x n))] : List Value) from rfl) ?_
  exact g_ireturn X Y hr bI_nar ⟨Nat.le_of_ble_eq_true rfl, Nat.le_of_ble_eq_true rfl⟩ dX3_isPlace_13 (⟨rfl, rfl⟩)
