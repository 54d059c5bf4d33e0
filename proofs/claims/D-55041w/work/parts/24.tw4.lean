/-- how many pearls of the first n of a pool come ahead of the pearl (p, k): f q i the sizes -/
def ahI (f : Nat → Nat → Int32) (p k q : Nat) : Nat → Int32
  | 0 => nI 0
  | n + 1 => ahI f p k q n + bI (f p k < f q n ∨ (f q n = f p k ∧ (q < p ∨ (q = p ∧ n < k))))
def ahO (f : Nat → Nat → Int32) (has : Nat → Nat) (p k : Nat) : Nat → Int32
  | 0 => nI 0
  | q + 1 => ahO f has p k q + ahI f p k q (has q)
/-- the sizes of the pearls -/
abbrev szs (w : Nat → Int32) (q i : Nat) : Int32 := w (16 + 10 * q + 3 + i)
/-- the first of the places of a pool, the first n of them, with the rank x -/
def rkI (P : Nat → Nat → Prop) [∀ p k, Decidable (P p k)] (p : Nat) : Nat → Option Nat
  | 0 => none
  | n + 1 => match rkI P p n with
    | some r => some r
    | none => if P p n then some (10 * p + n) else none
def rkO (P : Nat → Nat → Prop) [∀ p k, Decidable (P p k)] (has : Nat → Nat) : Nat → Option Nat
  | 0 => none
  | q + 1 => match rkO P has q with
    | some r => some r
    | none => rkI P q (has q)
theorem rkI_none {P : Nat → Nat → Prop} [∀ p k, Decidable (P p k)] {p n : Nat} (h : rkI P p n = none) (hP : ¬ P p n) : rkI P p (n + 1) = none := by
  show (match rkI P p n with | some r => some r | none => if P p n then some (10 * p + n) else none) = none
  rw [h]; exact if_neg hP
theorem rkI_some {P : Nat → Nat → Prop} [∀ p k, Decidable (P p k)] {p n : Nat} (h : rkI P p n = none) (hP : P p n) : ∀ n', n < n' → rkI P p n' = some (10 * p + n) := by
  intro n' hn
  induction n' with
  | zero => omega
  | succ j ih =>
    show (match rkI P p j with | some r => some r | none => if P p j then some (10 * p + j) else none) = _
    by_cases e : n = j
    · subst e; rw [h]; exact if_pos hP
    · rw [ih (by omega)]
theorem rkO_none {P : Nat → Nat → Prop} [∀ p k, Decidable (P p k)] {has : Nat → Nat} {q : Nat} (h : rkO P has q = none) (h2 : rkI P q (has q) = none) : rkO P has (q + 1) = none := by
  show (match rkO P has q with | some r => some r | none => rkI P q (has q)) = none
  rw [h]; exact h2
theorem rkO_some {P : Nat → Nat → Prop} [∀ p k, Decidable (P p k)] {has : Nat → Nat} {q r : Nat} (h : rkO P has q = none) (h2 : rkI P q (has q) = some r) : ∀ n', q < n' → rkO P has n' = some r := by
  intro n' hn
  induction n' with
  | zero => omega
  | succ j ih =>
    show (match rkO P has j with | some r => some r | none => rkI P j (has j)) = _
    by_cases e : q = j
    · subst e; rw [h]; exact h2
    · rw [ih (by omega)]
theorem shp_lo {w : Nat → Int32} {p k i j : Nat} (h : j < 16 + 10 * p + 3 + k) : shp w p k i j = w j := if_neg (by omega)
theorem shp_hi {w : Nat → Int32} {p k i j : Nat} (h : 16 + 10 * p + 3 + i ≤ j + 1) : shp w p k i j = w j := if_neg (by omega)
def oRanked (t : Tw) (np : Nat) (has : Nat → Nat) (x : Int32) : Int32 × Tw :=
  match rkO (fun p k => ahO (szs (t.2 1)) has p k np = x) has np with
  | some r => (nI r, t0 t)
  | none => (nI 0, twf (t0 t) 0 (nI 1))
def rAddStone (w : Nat → Int32) (ns p : Nat) (x : Int32) : Nat → Int32 := upd (upd (upd (upd w 2 (nI (ns + 1))) (76 + 5 * ns + 0) (nI p)) (76 + 5 * ns + 1) x) (76 + 5 * ns + 4) (w 0 + x)
def oAddStone (t : Tw) (np ns fc ch : Nat) (x y : Int32) : Int32 × Tw :=
  if ixb x np then
    (if nI 1 ≤ y ∧ y ≤ nI 20 then (if ns = 8 then (nI 0, refT (t0 t) (nI 3) (nI 1) (nI 8)) else (nI ns, tws (rem (t0 t) fc ch) 1 (rAddStone (t.2 1) ns (cN x) y))) else (nI 0, twf (t0 t) 0 (nI 2)))
  else (nI 0, twf (t0 t) 0 (nI 1))
def oStone (t : Tw) (ns : Nat) (x y : Int32) : Int32 × Tw :=
  if ixb x ns then (if y = nI 4 then (t.2 1 (76 + 5 * cN x + 4) - t.2 1 0, t0 t) else if ixb y 4 then (t.2 1 (76 + 5 * cN x + cN y), t0 t) else (nI 0, twf (t0 t) 0 (nI 2))) else (nI 0, twf (t0 t) 0 (nI 1))
/-- the first place of the smallest of f 0 .. f (n - 1) -/
def sm (f : Nat → Int32) : Nat → Option Nat
  | 0 => none
  | n + 1 => match sm f n with
    | none => some n
    | some b => if f n < f b then some n else some b
theorem sm_some {f : Nat → Int32} : ∀ n, 0 < n → ∃ b, sm f n = some b ∧ b < n := by
  intro n
  induction n with
  | zero => intro h; omega
  | succ n ih =>
    intro _
    show ∃ b, (match sm f n with | none => some n | some b => if f n < f b then some n else some b) = some b ∧ b < n + 1
    by_cases e : n = 0
    · subst e; exact ⟨0, rfl, by omega⟩
    · obtain ⟨b, h1, h2⟩ := ih (by omega)
      rw [h1]
      by_cases h : f n < f b
      · exact ⟨n, if_pos h, by omega⟩
      · exact ⟨b, if_neg h, by omega⟩
theorem sm_t {f : Nat → Int32} {n b : Nat} (h : sm f n = some b) (hl : f n < f b) : sm f (n + 1) = some n := by
  show (match sm f n with | none => some n | some b => if f n < f b then some n else some b) = _
  rw [h]; exact if_pos hl
theorem sm_f {f : Nat → Int32} {n b : Nat} (h : sm f n = some b) (hl : ¬ f n < f b) : sm f (n + 1) = some b := by
  show (match sm f n with | none => some n | some b => if f n < f b then some n else some b) = _
  rw [h]; exact if_neg hl
theorem sm_n {f : Nat → Int32} {n : Nat} (h : sm f n = none) : sm f (n + 1) = some n := by
  show (match sm f n with | none => some n | some b => if f n < f b then some n else some b) = _
  rw [h]
theorem sm_lt {f : Nat → Int32} {n b : Nat} (h : sm f n = some b) : b < n := by
  cases n with
  | zero => cases h
  | succ n =>
    obtain ⟨c, h1, h2⟩ := sm_some (f := f) (n + 1) (by omega)
    rw [h] at h1
    cases h1
    exact h2
theorem sm_0 {f : Nat → Int32} {n : Nat} (h : sm f n = none) : n = 0 := by
  by_cases e : n = 0
  · exact e
  · obtain ⟨b, h1, -⟩ := sm_some (f := f) n (by omega)
    rw [h] at h1; cases h1
def oNextStone (t : Tw) (ns : Nat) : Int32 × Tw :=
  match sm (fun s => t.2 1 (76 + 5 * s + 4)) ns with
  | none => (nI 0, twf (t0 t) 0 (nI 1))
  | some b => (nI b, t0 t)
set_option maxHeartbeats 4000000 in
set_option maxRecDepth 100000 in
theorem sp_X3_addPearl (l : Launch) (D : Dg) (B : Nat) (m : Nat) (S : Mm) (t : Tw) (hT : twK B S m) (np : Nat) (hnp : t.2 1 1 = nI np) (hnp6 : np ≤ 6) (has : Nat → Nat) (hhas : ∀ p, p < np → t.2 1 (16 + 10 * p + 2) = nI (has p)) (hhas5 : ∀ p, p < np → has p ≤ 5) (fc ch : Nat) (hfc : t.1 10 = nI fc) (hfc8 : fc < 8) (hch : t.1 9 = nI ch) (hch8 : ch ≤ 8) (x y : Int32) : Sp eI l D B yX3_addPearl (ws_ yX3_addPearl cX3_addPearl 3 (some .int)) (rmL 3 0 0) [.ref m, .int x, .int y] (tw m S t) (fun v S' => v = (oAddPearl t np fc ch has x y).1 ∧ S' = tw m S ((oAddPearl t np fc ch has x y).2)) (fun _ _ _ => False) := by
  refine Sp.of cX3_addPearl 3 (some .int) [(0, .ref m), (1, .int x), (2, .int y)] rfl (Nat.le_of_ble_eq_true rfl) rfl fun g X Y hr hnm hgl hgD hgB hex => ?_
  subst hgl hgD hgB
  refine g_aload_n X 0 rfl rfl dX3_addPearl_0 ?_
  refine g_iconst X (nI 0) (by first | rfl | decide) dX3_addPearl_1 ?_
  refine g_putV (S' := tw m S (twf t 0 (nI 0))) X mC_X3 0 (by decide) q3506 (mm_same.rf rfl) rfl (tK0 hT) (fun h => absurd h (by decide)) rfl rfl (.inl ⟨nI 0, rfl, rfl, tw_sI.symm⟩) dX3_addPearl_2 ?_
  refine g_aload_n X 0 rfl rfl dX3_addPearl_5 ?_
  refine g_iload_n X 1 rfl rfl dX3_addPearl_6 ?_
  refine g_callV (st := []) X (sp_X3_isPool _ _ _ m S (twf t 0 (nI 0)) hT x np hnp (by omega)) q3602 q3604 qs52 q119 q3605 ⟨rfl, (mm_npk 1 rfl (by decide +kernel))⟩ ⟨⟨Nat.le_of_ble_eq_true rfl, Nat.le_of_ble_eq_true rfl⟩, Nat.le_of_ble_eq_true rfl, Nat.le_of_ble_eq_true rfl⟩ mC_X3 (tK0 hT) rfl (Nat.le_of_ble_eq_true rfl) dX3_addPearl_7 (fun _ _ _ h => False.elim h) (fun v_7 S_7 p_7 => ?_)
  obtain ⟨rfl, rfl⟩ := p_7
  refine G.eq (show _ = ([.int (bI (ixb x np))] : List Value) from rfl) ?_
  refine g_if_ne X dX3_addPearl_10 (tgt := 19) (by decide) (fun h_10 => ?_) (fun h_10 => ?_)
  · replace h_10 := bI_1.mp h_10
    obtain ⟨p, hp, rfl⟩ := ixb_of h_10
    refine g_iload_n X 2 rfl rfl dX3_addPearl_19 ?_
    refine g_iconst X (nI 1) (by first | rfl | decide) dX3_addPearl_20 ?_
    refine g_bipush X (nI 99) (by first | rfl | decide) dX3_addPearl_21 ?_
    refine g_callS (st := []) X (sp_X3_isBetween _ _ _ (tw m S (twf t 0 (nI 0))) y (nI 1) (nI 99)) q3575 q3576 q119 q3577 (mm_npk 3 rfl (by decide +kernel)) ⟨⟨Nat.le_of_ble_eq_true rfl, Nat.le_of_ble_eq_true rfl⟩, Nat.le_of_ble_eq_true rfl, Nat.le_of_ble_eq_true rfl⟩ rfl (Nat.le_of_ble_eq_true rfl) dX3_addPearl_23 (fun _ _ _ h => False.elim h) (fun v_23t S_23t p_23t => ?_)
    obtain ⟨rfl, rfl⟩ := p_23t
    refine G.eq (show _ = ([.int (bI ((nI 1) ≤ y ∧ y ≤ (nI 99)))] : List Value) from rfl) ?_
    refine g_if_ne X dX3_addPearl_26 (tgt := 35) (by decide) (fun h_26t => ?_) (fun h_26t => ?_)
    · replace h_26t := bI_1.mp h_26t
      refine g_aload_n X 0 rfl rfl dX3_addPearl_35 ?_
      refine g_iload_n X 1 rfl rfl dX3_addPearl_36 ?_
      refine g_iconst X (nI 2) (by first | rfl | decide) dX3_addPearl_37 ?_
      refine g_callV (st := []) X (sp_X3_ofPool _ _ _ m S (twf t 0 (nI 0)) hT p 2 (by omega)) q3606 q3608 qs53 q119 q3609 ⟨rfl, (mm_npk 2 rfl (by decide +kernel))⟩ ⟨⟨Nat.le_of_ble_eq_true rfl, Nat.le_of_ble_eq_true rfl⟩, Nat.le_of_ble_eq_true rfl, Nat.le_of_ble_eq_true rfl⟩ mC_X3 (tK0 hT) rfl (Nat.le_of_ble_eq_true rfl) dX3_addPearl_38 (fun _ _ _ h => False.elim h) (fun v_38tt S_38tt p_38tt => ?_)
      obtain ⟨rfl, rfl⟩ := p_38tt
      refine G.eq (show _ = ([.int (nI (has p))] : List Value) by rw [show (twf t 0 (nI 0)).2 1 (16 + 10 * p + 2) = nI (has p) from (show t.2 1 (16 + 10 * p + 2) = nI (has p) from (hhas p hp))]; rfl) ?_
      have h5 := hhas5 p hp
      refine g_iconst X (nI 5) (by first | rfl | decide) dX3_addPearl_41 ?_
      refine g_icmp_ne X dX3_addPearl_42 (tgt := 53) (by decide) (fun h_42tt => ?_) (fun h_42tt => ?_)
      · replace h_42tt := mt (nI_eq (by omega) (by omega)).mpr h_42tt
        refine g_aload_n X 0 rfl rfl dX3_addPearl_53 ?_
        refine g_callV (st := []) X (sp_X3_remembers _ _ _ m S (twf t 0 (nI 0)) hT fc ch hfc hfc8 hch hch8) q3586 q3588 qs49 q119 q3589 ⟨rfl, (mm_npk 0 rfl (by decide +kernel))⟩ ⟨⟨Nat.le_of_ble_eq_true rfl, Nat.le_of_ble_eq_true rfl⟩, Nat.le_of_ble_eq_true rfl, Nat.le_of_ble_eq_true rfl⟩ mC_X3 (tK0 hT) rfl (Nat.le_of_ble_eq_true rfl) dX3_addPearl_54 (fun _ _ _ h => False.elim h) (fun v_54ttt S_54ttt p_54ttt => ?_)
        obtain rfl := p_54ttt
        refine G.eq (show _ = ([] : List Value) from rfl) ?_
        refine g_aload_n X 0 rfl rfl dX3_addPearl_57 ?_
        refine g_getR (v := some (m + 1)) X mC_X3 5 (by decide) q3511 (mm_same.rf rfl) rfl (tK0 hT) (tR1 hT) dX3_addPearl_58 ?_
        refine g_bipush X (nI 16) (by first | rfl | decide) dX3_addPearl_61 ?_
        refine g_bipush X (nI 10) (by first | rfl | decide) dX3_addPearl_63 ?_
        refine g_iload_n X 1 rfl rfl dX3_addPearl_65 ?_
        refine g_imulN X rfl dX3_addPearl_66 ?_
        refine g_iaddN X rfl dX3_addPearl_67 ?_
        refine g_iconst X (nI 3) (by first | rfl | decide) dX3_addPearl_68 ?_
        refine g_iaddN X rfl dX3_addPearl_69 ?_
        refine g_aload_n X 0 rfl rfl dX3_addPearl_70 ?_
        refine g_iload_n X 1 rfl rfl dX3_addPearl_71 ?_
        refine g_iconst X (nI 2) (by first | rfl | decide) dX3_addPearl_72 ?_
        refine g_callV (st := [.int (nI (16 + 10 * p + 3)), .ref (m + 1)]) X (sp_X3_ofPool _ _ _ m S (rem (twf t 0 (nI 0)) fc ch) hT p 2 (by omega)) q3606 q3608 qs53 q119 q3609 ⟨rfl, (mm_npk 2 rfl (by decide +kernel))⟩ ⟨⟨Nat.le_of_ble_eq_true rfl, Nat.le_of_ble_eq_true rfl⟩, Nat.le_of_ble_eq_true rfl, Nat.le_of_ble_eq_true rfl⟩ mC_X3 (tK0 hT) rfl (Nat.le_of_ble_eq_true rfl) dX3_addPearl_73 (fun _ _ _ h => False.elim h) (fun v_73ttt S_73ttt p_73ttt => ?_)
        obtain ⟨rfl, rfl⟩ := p_73ttt
        refine G.eq (show _ = ([.int (nI (has p)), .int (nI (16 + 10 * p + 3)), .ref (m + 1)] : List Value) by rw [show (rem (twf t 0 (nI 0)) fc ch).2 1 (16 + 10 * p + 2) = nI (has p) from (show t.2 1 (16 + 10 * p + 2) = nI (has p) from (hhas p hp))]; rfl) ?_
        refine g_iaddN X rfl dX3_addPearl_76 ?_
        refine g_iload_n X 2 rfl rfl dX3_addPearl_77 ?_
        refine g_iast (v := y) (S' := tw m S (tws (rem (twf t 0 (nI 0)) fc ch) 1 (upd (t.2 1) (16 + 10 * p + 3 + has p) y))) X (mm_ix.of rfl (by omega) (by omega)) (tK1 hT) (tB1 hT) rfl (tw_sA (by decide)) dX3_addPearl_78 ?_
        refine g_aload_n X 0 rfl rfl dX3_addPearl_79 ?_
        refine g_iload_n X 1 rfl rfl dX3_addPearl_80 ?_
        refine g_iconst X (nI 2) (by first | rfl | decide) dX3_addPearl_81 ?_
        refine g_iconst X (nI 1) (by first | rfl | decide) dX3_addPearl_82 ?_
        refine g_callV (st := []) X (sp_X3_addsPool _ _ _ m S (tws (rem (twf t 0 (nI 0)) fc ch) 1 (upd (t.2 1) (16 + 10 * p + 3 + has p) y)) hT p 2 (by omega) (nI 1)) q3622 q3624 qs56 q119 q3625 ⟨rfl, (mm_npk 3 rfl (by decide +kernel))⟩ ⟨⟨Nat.le_of_ble_eq_true rfl, Nat.le_of_ble_eq_true rfl⟩, Nat.le_of_ble_eq_true rfl, Nat.le_of_ble_eq_true rfl⟩ mC_X3 (tK0 hT) rfl (Nat.le_of_ble_eq_true rfl) dX3_addPearl_83 (fun _ _ _ h => False.elim h) (fun v_83ttt S_83ttt p_83ttt => ?_)
        obtain rfl := p_83ttt
        refine G.mem (S' := tw m S (tws (rem (twf t 0 (nI 0)) fc ch) 1 (upd (upd (t.2 1) (16 + 10 * p + 3 + has p) y) (16 + 10 * p + 2) (nI (has p + 1))))) (by rw [show (tws (rem (twf t 0 (nI 0)) fc ch) 1 (upd (t.2 1) (16 + 10 * p + 3 + has p) y)).2 1 (16 + 10 * p + 2) = nI (has p) from (show (upd (t.2 1) (16 + 10 * p + 3 + has p) y) (16 + 10 * p + 2) = nI (has p) from ((pk_un (by omega)).trans (hhas p hp)))]; rw [nI_add]; exact congrArg (tw m S) tws_tws) ?_
        refine G.eq (show _ = ([] : List Value) from rfl) ?_
        refine g_aload_n X 0 rfl rfl dX3_addPearl_86 ?_
        refine g_getR (v := some (m + 1)) X mC_X3 5 (by decide) q3511 (mm_same.rf rfl) rfl (tK0 hT) (tR1 hT) dX3_addPearl_87 ?_
        refine g_bipush X (nI 14) (by first | rfl | decide) dX3_addPearl_90 ?_
        refine g_dup2 X rfl rfl dX3_addPearl_92 ?_
        refine g_iald (v := t.2 1 14) X (mm_ix.of rfl (by omega) (by omega)) (tK1 hT) ((tw_A (by decide)).trans (show (upd (upd (t.2 1) (16 + 10 * p + 3 + has p) y) (16 + 10 * p + 2) (nI (has p + 1))) 14 = t.2 1 14 from ((pk_un (by omega)).trans (pk_un (by omega))))) dX3_addPearl_93 ?_
        refine g_iload_n X 2 rfl rfl dX3_addPearl_94 ?_
        refine g_iadd X dX3_addPearl_95 ?_
        refine g_iast (v := (t.2 1 14) + y) (S' := tw m S (tws (rem (twf t 0 (nI 0)) fc ch) 1 (upd (upd (upd (t.2 1) (16 + 10 * p + 3 + has p) y) (16 + 10 * p + 2) (nI (has p + 1))) 14 ((t.2 1 14) + y)))) X (mm_ix.of rfl (by omega) (by omega)) (tK1 hT) (tB1 hT) rfl (tw_sA2 (by decide)) dX3_addPearl_96 ?_
        refine g_aload_n X 0 rfl rfl dX3_addPearl_97 ?_
        refine g_iload_n X 1 rfl rfl dX3_addPearl_98 ?_
        refine g_iconst X (nI 2) (by first | rfl | decide) dX3_addPearl_99 ?_
        refine g_callV (st := []) X (sp_X3_ofPool _ _ _ m S (tws (rem (twf t 0 (nI 0)) fc ch) 1 (upd (upd (upd (t.2 1) (16 + 10 * p + 3 + has p) y) (16 + 10 * p + 2) (nI (has p + 1))) 14 ((t.2 1 14) + y))) hT p 2 (by omega)) q3606 q3608 qs53 q119 q3609 ⟨rfl, (mm_npk 2 rfl (by decide +kernel))⟩ ⟨⟨Nat.le_of_ble_eq_true rfl, Nat.le_of_ble_eq_true rfl⟩, Nat.le_of_ble_eq_true rfl, Nat.le_of_ble_eq_true rfl⟩ mC_X3 (tK0 hT) rfl (Nat.le_of_ble_eq_true rfl) dX3_addPearl_100 (fun _ _ _ h => False.elim h) (fun v_100ttt S_100ttt p_100ttt => ?_)
        obtain ⟨rfl, rfl⟩ := p_100ttt
        refine G.eq (show _ = ([.int (nI (has p + 1))] : List Value) by rw [show (tws (rem (twf t 0 (nI 0)) fc ch) 1 (upd (upd (upd (t.2 1) (16 + 10 * p + 3 + has p) y) (16 + 10 * p + 2) (nI (has p + 1))) 14 ((t.2 1 14) + y))).2 1 (16 + 10 * p + 2) = nI (has p + 1) from (show (upd (upd (upd (t.2 1) (16 + 10 * p + 3 + has p) y) (16 + 10 * p + 2) (nI (has p + 1))) 14 ((t.2 1 14) + y)) (16 + 10 * p + 2) = nI (has p + 1) from ((pk_un (by omega)).trans pk_us))]; rfl) ?_
        refine g_iconst X (nI 1) (by first | rfl | decide) dX3_addPearl_103 ?_
        refine g_isubN (z := has p) X (by omega) dX3_addPearl_104 ?_
        exact g_ireturn X Y hr rfl ⟨Nat.le_of_ble_eq_true rfl, Nat.le_of_ble_eq_true rfl⟩ dX3_addPearl_105 (by unfold oAddPearl; rw [if_pos ((ixb_nI (by omega)).mpr hp), if_pos h_26t, cN_nI (by omega), if_neg h_42tt]; exact ⟨rfl, rfl⟩)
      · replace h_42tt := (nI_eq (by omega) (by omega)).mp h_42tt
        refine g_aload_n X 0 rfl rfl dX3_addPearl_45 ?_
        refine g_iconst X (nI 3) (by first | rfl | decide) dX3_addPearl_46 ?_
        refine g_iconst X (nI 1) (by first | rfl | decide) dX3_addPearl_47 ?_
        refine g_iconst X (nI 5) (by first | rfl | decide) dX3_addPearl_48 ?_
        refine g_callV (st := []) X (sp_X3_refuses _ _ _ m S (twf t 0 (nI 0)) hT (nI 3) (nI 1) (nI 5)) q3582 q3584 qs48 q119 q3585 ⟨rfl, (mm_npk 3 rfl (by decide +kernel))⟩ ⟨⟨Nat.le_of_ble_eq_true rfl, Nat.le_of_ble_eq_true rfl⟩, Nat.le_of_ble_eq_true rfl, Nat.le_of_ble_eq_true rfl⟩ mC_X3 (tK0 hT) rfl (Nat.le_of_ble_eq_true rfl) dX3_addPearl_49 (fun _ _ _ h => False.elim h) (fun v_49ttf S_49ttf p_49ttf => ?_)
        obtain ⟨rfl, rfl⟩ := p_49ttf
        refine G.eq (show _ = ([.int (nI 0)] : List Value) from rfl) ?_
        exact g_ireturn X Y hr rfl ⟨Nat.le_of_ble_eq_true rfl, Nat.le_of_ble_eq_true rfl⟩ dX3_addPearl_52 (by unfold oAddPearl; rw [if_pos ((ixb_nI (by omega)).mpr hp), if_pos h_26t, cN_nI (by omega), if_pos h_42tt]; exact ⟨rfl, rfl⟩)
    · replace h_26t := bI_0.mp h_26t
      refine g_aload_n X 0 rfl rfl dX3_addPearl_29 ?_
      refine g_iconst X (nI 2) (by first | rfl | decide) dX3_addPearl_30 ?_
      refine g_callV (st := []) X (sp_X3_fails _ _ _ m S (twf t 0 (nI 0)) hT (nI 2)) q3578 q3580 qs47 q119 q3581 ⟨rfl, (mm_npk 1 rfl (by decide +kernel))⟩ ⟨⟨Nat.le_of_ble_eq_true rfl, Nat.le_of_ble_eq_true rfl⟩, Nat.le_of_ble_eq_true rfl, Nat.le_of_ble_eq_true rfl⟩ mC_X3 (tK0 hT) rfl (Nat.le_of_ble_eq_true rfl) dX3_addPearl_31 (fun _ _ _ h => False.elim h) (fun v_31tf S_31tf p_31tf => ?_)
      obtain ⟨rfl, rfl⟩ := p_31tf
      refine G.eq (show _ = ([.int (nI 0)] : List Value) from rfl) ?_
      exact g_ireturn X Y hr rfl ⟨Nat.le_of_ble_eq_true rfl, Nat.le_of_ble_eq_true rfl⟩ dX3_addPearl_34 (by unfold oAddPearl; rw [if_pos ((ixb_nI (by omega)).mpr hp), if_neg h_26t]; exact ⟨rfl, rfl⟩)
  · replace h_10 := bI_0.mp h_10
    refine g_aload_n X 0 rfl rfl dX3_addPearl_13 ?_
    refine g_iconst X (nI 1) (by first | rfl | decide) dX3_addPearl_14 ?_
    refine g_callV (st := []) X (sp_X3_fails _ _ _ m S (twf t 0 (nI 0)) hT (nI 1)) q3578 q3580 qs47 q119 q3581 ⟨rfl, (mm_npk 1 rfl (by decide +kernel))⟩ ⟨⟨Nat.le_of_ble_eq_true rfl, Nat.le_of_ble_eq_true rfl⟩, Nat.le_of_ble_eq_true rfl, Nat.le_of_ble_eq_true rfl⟩ mC_X3 (tK0 hT) rfl (Nat.le_of_ble_eq_true rfl) dX3_addPearl_15 (fun _ _ _ h => False.elim h) (fun v_15f S_15f p_15f => ?_)
    obtain ⟨rfl, rfl⟩ := p_15f
    refine G.eq (show _ = ([.int (nI 0)] : List Value) from rfl) ?_
    exact g_ireturn X Y hr rfl ⟨Nat.le_of_ble_eq_true rfl, Nat.le_of_ble_eq_true rfl⟩ dX3_addPearl_18 (by unfold oAddPearl; rw [if_neg h_10]; exact ⟨rfl, rfl⟩)
set_option maxHeartbeats 4000000 in
set_option maxRecDepth 100000 in
theorem sp_X3_takePearl (l : Launch) (D : Dg) (B : Nat) (m : Nat) (S : Mm) (t : Tw) (hT : twK B S m) (np : Nat) (hnp : t.2 1 1 = nI np) (hnp6 : np ≤ 6) (has : Nat → Nat) (hhas : ∀ p, p < np → t.2 1 (16 + 10 * p + 2) = nI (has p)) (hhas5 : ∀ p, p < np → has p ≤ 5) (fc ch : Nat) (hfc : t.1 10 = nI fc) (hfc8 : fc < 8) (hch : t.1 9 = nI ch) (hch8 : ch ≤ 8) (x y : Int32) : Sp eI l D B yX3_takePearl (ws_ yX3_takePearl cX3_takePearl 5 (some .int)) (rmL 3 0 0) [.ref m, .int x, .int y] (tw m S t) (fun v S' => v = (oTakePearl t np fc ch has x y).1 ∧ S' = tw m S ((oTakePearl t np fc ch has x y).2)) (fun _ _ _ => False) := by
  refine Sp.of cX3_takePearl 5 (some .int) [(0, .ref m), (1, .int x), (2, .int y)] rfl (Nat.le_of_ble_eq_true rfl) rfl fun g X Y hr hnm hgl hgD hgB hex => ?_
  subst hgl hgD hgB
  refine g_aload_n X 0 rfl rfl dX3_takePearl_0 ?_
  refine g_iconst X (nI 0) (by first | rfl | decide) dX3_takePearl_1 ?_
  refine g_putV (S' := tw m S (twf t 0 (nI 0))) X mC_X3 0 (by decide) q3506 (mm_same.rf rfl) rfl (tK0 hT) (fun h => absurd h (by decide)) rfl rfl (.inl ⟨nI 0, rfl, rfl, tw_sI.symm⟩) dX3_takePearl_2 ?_
  refine g_aload_n X 0 rfl rfl dX3_takePearl_5 ?_
  refine g_iload_n X 1 rfl rfl dX3_takePearl_6 ?_
  refine g_callV (st := []) X (sp_X3_isPool _ _ _ m S (twf t 0 (nI 0)) hT x np hnp (by omega)) q3602 q3604 qs52 q119 q3605 ⟨rfl, (mm_npk 1 rfl (by decide +kernel))⟩ ⟨⟨Nat.le_of_ble_eq_true rfl, Nat.le_of_ble_eq_true rfl⟩, Nat.le_of_ble_eq_true rfl, Nat.le_of_ble_eq_true rfl⟩ mC_X3 (tK0 hT) rfl (Nat.le_of_ble_eq_true rfl) dX3_takePearl_7 (fun _ _ _ h => False.elim h) (fun v_7 S_7 p_7 => ?_)
  obtain ⟨rfl, rfl⟩ := p_7
  refine G.eq (show _ = ([.int (bI (ixb x np))] : List Value) from rfl) ?_
  refine g_if_ne X dX3_takePearl_10 (tgt := 19) (by decide) (fun h_10 => ?_) (fun h_10 => ?_)
  · replace h_10 := bI_1.mp h_10
    obtain ⟨p, hp, rfl⟩ := ixb_of h_10
    refine g_aload_n X 0 rfl rfl dX3_takePearl_19 ?_
    refine g_iload_n X 1 rfl rfl dX3_takePearl_20 ?_
    refine g_iload_n X 2 rfl rfl dX3_takePearl_21 ?_
    refine g_callV (st := []) X (sp_X3_isPlace _ _ _ m S (twf t 0 (nI 0)) hT p (by omega) y (has p) (hhas p hp) (by have := hhas5 p hp; omega)) q3630 q3632 qs57 q119 q3633 ⟨rfl, (mm_npk 2 rfl (by decide +kernel))⟩ ⟨⟨Nat.le_of_ble_eq_true rfl, Nat.le_of_ble_eq_true rfl⟩, Nat.le_of_ble_eq_true rfl, Nat.le_of_ble_eq_true rfl⟩ mC_X3 (tK0 hT) rfl (Nat.le_of_ble_eq_true rfl) dX3_takePearl_22 (fun _ _ _ h => False.elim h) (fun v_22t S_22t p_22t => ?_)
    obtain ⟨rfl, rfl⟩ := p_22t
    refine G.eq (show _ = ([.int (bI (ixb y (has p)))] : List Value) from rfl) ?_
    refine g_if_ne X dX3_takePearl_25 (tgt := 34) (by decide) (fun h_25t => ?_) (fun h_25t => ?_)
    · replace h_25t := bI_1.mp h_25t
      obtain ⟨k, hk, rfl⟩ := ixb_of h_25t
      have h5 := hhas5 p hp
      refine g_aload_n X 0 rfl rfl dX3_takePearl_34 ?_
      refine g_callV (st := []) X (sp_X3_remembers _ _ _ m S (twf t 0 (nI 0)) hT fc ch hfc hfc8 hch hch8) q3586 q3588 qs49 q119 q3589 ⟨rfl, (mm_npk 0 rfl (by decide +kernel))⟩ ⟨⟨Nat.le_of_ble_eq_true rfl, Nat.le_of_ble_eq_true rfl⟩, Nat.le_of_ble_eq_true rfl, Nat.le_of_ble_eq_true rfl⟩ mC_X3 (tK0 hT) rfl (Nat.le_of_ble_eq_true rfl) dX3_takePearl_35 (fun _ _ _ h => False.elim h) (fun v_35tt S_35tt p_35tt => ?_)
      obtain rfl := p_35tt
      refine G.eq (show _ = ([] : List Value) from rfl) ?_
      refine g_aload_n X 0 rfl rfl dX3_takePearl_38 ?_
      refine g_iload_n X 1 rfl rfl dX3_takePearl_39 ?_
      refine g_iload_n X 2 rfl rfl dX3_takePearl_40 ?_
      refine g_callV (st := []) X (sp_X3_sizeOf _ _ _ m S (rem (twf t 0 (nI 0)) fc ch) hT p k (by omega)) q3634 q3636 qs58 q119 q3637 ⟨rfl, (mm_npk 2 rfl (by decide +kernel))⟩ ⟨⟨Nat.le_of_ble_eq_true rfl, Nat.le_of_ble_eq_true rfl⟩, Nat.le_of_ble_eq_true rfl, Nat.le_of_ble_eq_true rfl⟩ mC_X3 (tK0 hT) rfl (Nat.le_of_ble_eq_true rfl) dX3_takePearl_41 (fun _ _ _ h => False.elim h) (fun v_41tt S_41tt p_41tt => ?_)
      obtain ⟨rfl, rfl⟩ := p_41tt
      refine G.eq (show _ = ([.int (t.2 1 (16 + 10 * p + 3 + k))] : List Value) from rfl) ?_
      refine g_istore_n (L' := [(3, .int (t.2 1 (16 + 10 * p + 3 + k))), (0, .ref m), (1, .int (nI p)), (2, .int (nI k))]) X (by decide) rfl rfl dX3_takePearl_44 ?_
      refine g_iload_n X 3 rfl rfl dX3_takePearl_45 ?_
      refine g_iconst X (nI 1) (by first | rfl | decide) dX3_takePearl_46 ?_
      refine g_iaddN X rfl dX3_takePearl_47 ?_
      refine g_istore (L' := [(4, .int (nI (k + 1))), (3, .int (t.2 1 (16 + 10 * p + 3 + k))), (0, .ref m), (1, .int (nI p)), (2, .int (nI k))]) X (by decide) rfl dX3_takePearl_48 ?_
      have key_50tt : ∀ (k9 i : Nat) , (has p) < i + k9 → i ≤ (has p) → k < i → G g 0 0 (tw m S (tws (rem (twf t 0 (nI 0)) fc ch) 1 (shp (t.2 1) p k i))) 50 [(4, .int (nI i)), (3, .int (t.2 1 (16 + 10 * p + 3 + k))), (2, .int (nI k)), (1, .int (nI p)), (0, .ref m)] [] := by
        intro k9
        induction k9 with
        | zero => intro i  a1 a2; omega
        | succ k9 ih_50 =>
          intro i  a1 a2 a3
          refine g_iload X 0 rfl dX3_takePearl_50 ?_
          refine g_aload_n X 4 rfl rfl dX3_takePearl_52 ?_
          refine g_iload_n X 3 rfl rfl dX3_takePearl_53 ?_
          refine g_iconst X (nI 2) (by first | rfl | decide) dX3_takePearl_54 ?_
          refine g_callV (st := [.int (nI i)]) X (sp_X3_ofPool _ _ _ m S (tws (rem (twf t 0 (nI 0)) fc ch) 1 (shp (t.2 1) p k i)) hT p 2 (by omega)) q3606 q3608 qs53 q119 q3609 ⟨rfl, (mm_npk 2 rfl (by decide +kernel))⟩ ⟨⟨Nat.le_of_ble_eq_true rfl, Nat.le_of_ble_eq_true rfl⟩, Nat.le_of_ble_eq_true rfl, Nat.le_of_ble_eq_true rfl⟩ mC_X3 (tK0 hT) rfl (Nat.le_of_ble_eq_true rfl) dX3_takePearl_55 (fun _ _ _ h => False.elim h) (fun v_55ttL S_55ttL p_55ttL => ?_)
          obtain ⟨rfl, rfl⟩ := p_55ttL
          refine G.eq (show _ = ([.int (nI (has p)), .int (nI i)] : List Value) by rw [show (tws (rem (twf t 0 (nI 0)) fc ch) 1 (shp (t.2 1) p k i)).2 1 (16 + 10 * p + 2) = nI (has p) from (show (shp (t.2 1) p k i) (16 + 10 * p + 2) = nI (has p) from ((shp_lo (by omega)).trans (hhas p hp)))]; rfl) ?_
          refine g_icmp_ge X dX3_takePearl_58 (tgt := 93) (by decide) (fun h_58ttL => ?_) (fun h_58ttL => ?_)
          · replace h_58ttL := (nI_leI (by omega) (by omega)).mp h_58ttL
            refine g_aload_n X 4 rfl rfl dX3_takePearl_93 ?_
            refine g_iload_n X 3 rfl rfl dX3_takePearl_94 ?_
            refine g_iconst X (nI 2) (by first | rfl | decide) dX3_takePearl_95 ?_
            refine g_iconst X ((-1)) (by first | rfl | decide) dX3_takePearl_96 ?_
            refine g_callV (st := []) X (sp_X3_addsPool _ _ _ m S (tws (rem (twf t 0 (nI 0)) fc ch) 1 (shp (t.2 1) p k i)) hT p 2 (by omega) (-1)) q3622 q3624 qs56 q119 q3625 ⟨rfl, (mm_npk 3 rfl (by decide +kernel))⟩ ⟨⟨Nat.le_of_ble_eq_true rfl, Nat.le_of_ble_eq_true rfl⟩, Nat.le_of_ble_eq_true rfl, Nat.le_of_ble_eq_true rfl⟩ mC_X3 (tK0 hT) rfl (Nat.le_of_ble_eq_true rfl) dX3_takePearl_97 (fun _ _ _ h => False.elim h) (fun v_97ttLt S_97ttLt p_97ttLt => ?_)
            obtain rfl := p_97ttLt
            refine G.mem (S' := tw m S (tws (rem (twf t 0 (nI 0)) fc ch) 1 (upd (shp (t.2 1) p k i) (16 + 10 * p + 2) (nI (has p - 1))))) (by rw [show (tws (rem (twf t 0 (nI 0)) fc ch) 1 (shp (t.2 1) p k i)).2 1 (16 + 10 * p + 2) = nI (has p) from (show (shp (t.2 1) p k i) (16 + 10 * p + 2) = nI (has p) from ((shp_lo (by omega)).trans (hhas p hp)))]; rw [sb_m1 (by omega)]; exact congrArg (tw m S) tws_tws) ?_
            refine G.eq (show _ = ([] : List Value) from rfl) ?_
            refine g_aload_n X 4 rfl rfl dX3_takePearl_100 ?_
            refine g_getR (v := some (m + 1)) X mC_X3 5 (by decide) q3511 (mm_same.rf rfl) rfl (tK0 hT) (tR1 hT) dX3_takePearl_101 ?_
            refine g_bipush X (nI 16) (by first | rfl | decide) dX3_takePearl_104 ?_
            refine g_bipush X (nI 10) (by first | rfl | decide) dX3_takePearl_106 ?_
            refine g_iload_n X 3 rfl rfl dX3_takePearl_108 ?_
            refine g_imulN X rfl dX3_takePearl_109 ?_
            refine g_iaddN X rfl dX3_takePearl_110 ?_
            refine g_iconst X (nI 3) (by first | rfl | decide) dX3_takePearl_111 ?_
            refine g_iaddN X rfl dX3_takePearl_112 ?_
            refine g_aload_n X 4 rfl rfl dX3_takePearl_113 ?_
            refine g_iload_n X 3 rfl rfl dX3_takePearl_114 ?_
            refine g_iconst X (nI 2) (by first | rfl | decide) dX3_takePearl_115 ?_
            refine g_callV (st := [.int (nI (16 + 10 * p + 3)), .ref (m + 1)]) X (sp_X3_ofPool _ _ _ m S (tws (rem (twf t 0 (nI 0)) fc ch) 1 (upd (shp (t.2 1) p k i) (16 + 10 * p + 2) (nI (has p - 1)))) hT p 2 (by omega)) q3606 q3608 qs53 q119 q3609 ⟨rfl, (mm_npk 2 rfl (by decide +kernel))⟩ ⟨⟨Nat.le_of_ble_eq_true rfl, Nat.le_of_ble_eq_true rfl⟩, Nat.le_of_ble_eq_true rfl, Nat.le_of_ble_eq_true rfl⟩ mC_X3 (tK0 hT) rfl (Nat.le_of_ble_eq_true rfl) dX3_takePearl_116 (fun _ _ _ h => False.elim h) (fun v_116ttLt S_116ttLt p_116ttLt => ?_)
            obtain ⟨rfl, rfl⟩ := p_116ttLt
            refine G.eq (show _ = ([.int (nI (has p - 1)), .int (nI (16 + 10 * p + 3)), .ref (m + 1)] : List Value) by rw [show (tws (rem (twf t 0 (nI 0)) fc ch) 1 (upd (shp (t.2 1) p k i) (16 + 10 * p + 2) (nI (has p - 1)))).2 1 (16 + 10 * p + 2) = nI (has p - 1) from (show (upd (shp (t.2 1) p k i) (16 + 10 * p + 2) (nI (has p - 1))) (16 + 10 * p + 2) = nI (has p - 1) from pk_us)]; rfl) ?_
            refine g_iaddN X rfl dX3_takePearl_119 ?_
            refine g_iconst X (nI 0) (by first | rfl | decide) dX3_takePearl_120 ?_
            refine g_iast (v := nI 0) (S' := tw m S (tws (rem (twf t 0 (nI 0)) fc ch) 1 (upd (upd (shp (t.2 1) p k i) (16 + 10 * p + 2) (nI (has p - 1))) (16 + 10 * p + 3 + (has p - 1)) (nI 0)))) X (mm_ix.of rfl (by omega) (by omega)) (tK1 hT) (tB1 hT) rfl (tw_sA2 (by decide)) dX3_takePearl_121 ?_
            refine g_aload_n X 4 rfl rfl dX3_takePearl_122 ?_
            refine g_getR (v := some (m + 1)) X mC_X3 5 (by decide) q3511 (mm_same.rf rfl) rfl (tK0 hT) (tR1 hT) dX3_takePearl_123 ?_
            refine g_bipush X (nI 15) (by first | rfl | decide) dX3_takePearl_126 ?_
            refine g_dup2 X rfl rfl dX3_takePearl_128 ?_
            refine g_iald (v := t.2 1 15) X (mm_ix.of rfl (by omega) (by omega)) (tK1 hT) ((tw_A (by decide)).trans (show (upd (upd (shp (t.2 1) p k i) (16 + 10 * p + 2) (nI (has p - 1))) (16 + 10 * p + 3 + (has p - 1)) (nI 0)) 15 = t.2 1 15 from ((pk_un (by omega)).trans ((pk_un (by omega)).trans (shp_lo (by omega)))))) dX3_takePearl_129 ?_
            refine g_iload_n X 1 rfl rfl dX3_takePearl_130 ?_
            refine g_iadd X dX3_takePearl_131 ?_
            refine g_iast (v := (t.2 1 15) + (t.2 1 (16 + 10 * p + 3 + k))) (S' := tw m S (tws (rem (twf t 0 (nI 0)) fc ch) 1 (upd (upd (upd (shp (t.2 1) p k i) (16 + 10 * p + 2) (nI (has p - 1))) (16 + 10 * p + 3 + (has p - 1)) (nI 0)) 15 ((t.2 1 15) + (t.2 1 (16 + 10 * p + 3 + k)))))) X (mm_ix.of rfl (by omega) (by omega)) (tK1 hT) (tB1 hT) rfl (tw_sA2 (by decide)) dX3_takePearl_132 ?_
            refine g_iload_n X 1 rfl rfl dX3_takePearl_133 ?_
            exact g_ireturn X Y hr rfl ⟨Nat.le_of_ble_eq_true rfl, Nat.le_of_ble_eq_true rfl⟩ dX3_takePearl_134 (by
                have e : i = has p := by omega
                rw [e]
                unfold oTakePearl
                rw [if_pos ((ixb_nI (by omega)).mpr hp), if_pos (by rw [cN_nI (by omega)]; exact (ixb_nI (by omega)).mpr hk), cN_nI (n := p) (by omega), cN_nI (n := k) (by omega)]
                exact ⟨rfl, rfl⟩)
          · replace h_58ttL := mt (nI_leI (by omega) (by omega)).mpr h_58ttL
            refine g_aload_n X 4 rfl rfl dX3_takePearl_61 ?_
            refine g_getR (v := some (m + 1)) X mC_X3 5 (by decide) q3511 (mm_same.rf rfl) rfl (tK0 hT) (tR1 hT) dX3_takePearl_62 ?_
            refine g_bipush X (nI 16) (by first | rfl | decide) dX3_takePearl_65 ?_
            refine g_bipush X (nI 10) (by first | rfl | decide) dX3_takePearl_67 ?_
            refine g_iload_n X 3 rfl rfl dX3_takePearl_69 ?_
            refine g_imulN X rfl dX3_takePearl_70 ?_
            refine g_iaddN X rfl dX3_takePearl_71 ?_
            refine g_iconst X (nI 3) (by first | rfl | decide) dX3_takePearl_72 ?_
            refine g_iaddN X rfl dX3_takePearl_73 ?_
            refine g_iload X 0 rfl dX3_takePearl_74 ?_
            refine g_iaddN X rfl dX3_takePearl_76 ?_
            refine g_iconst X (nI 1) (by first | rfl | decide) dX3_takePearl_77 ?_
            refine g_isubN (z := 16 + 10 * p + 3 + i - 1) X (by omega) dX3_takePearl_78 ?_
            refine g_aload_n X 4 rfl rfl dX3_takePearl_79 ?_
            refine g_iload_n X 3 rfl rfl dX3_takePearl_80 ?_
            refine g_iload X 0 rfl dX3_takePearl_81 ?_
            refine g_callV (st := [.int (nI (16 + 10 * p + 3 + i - 1)), .ref (m + 1)]) X (sp_X3_sizeOf _ _ _ m S (tws (rem (twf t 0 (nI 0)) fc ch) 1 (shp (t.2 1) p k i)) hT p i (by omega)) q3634 q3636 qs58 q119 q3637 ⟨rfl, (mm_npk 2 rfl (by decide +kernel))⟩ ⟨⟨Nat.le_of_ble_eq_true rfl, Nat.le_of_ble_eq_true rfl⟩, Nat.le_of_ble_eq_true rfl, Nat.le_of_ble_eq_true rfl⟩ mC_X3 (tK0 hT) rfl (Nat.le_of_ble_eq_true rfl) dX3_takePearl_83 (fun _ _ _ h => False.elim h) (fun v_83ttLf S_83ttLf p_83ttLf => ?_)
            obtain ⟨rfl, rfl⟩ := p_83ttLf
            refine G.eq (show _ = ([.int (t.2 1 (16 + 10 * p + 3 + i)), .int (nI (16 + 10 * p + 3 + i - 1)), .ref (m + 1)] : List Value) by rw [show (tws (rem (twf t 0 (nI 0)) fc ch) 1 (shp (t.2 1) p k i)).2 1 (16 + 10 * p + 3 + i) = t.2 1 (16 + 10 * p + 3 + i) from (show (shp (t.2 1) p k i) (16 + 10 * p + 3 + i) = t.2 1 (16 + 10 * p + 3 + i) from (shp_hi (by omega)))]; rfl) ?_
            refine g_iast (v := t.2 1 (16 + 10 * p + 3 + i)) (S' := tw m S (tws (rem (twf t 0 (nI 0)) fc ch) 1 (upd (shp (t.2 1) p k i) (16 + 10 * p + 3 + i - 1) (t.2 1 (16 + 10 * p + 3 + i))))) X (mm_ix.of rfl (by omega) (by omega)) (tK1 hT) (tB1 hT) rfl (tw_sA2 (by decide)) dX3_takePearl_86 ?_
            refine g_iinc (L' := [(4, .int (nI (i + 1))), (3, .int (t.2 1 (16 + 10 * p + 3 + k))), (2, .int (nI k)), (1, .int (nI p)), (0, .ref m)]) X 0 (nI (i + 1)) rfl (nI_1 _) (by decide) rfl dX3_takePearl_87 ?_
            refine g_goto X dX3_takePearl_90 (tgt := 50) (by decide) ?_
            refine G.mem (S' := tw m S (tws (rem (twf t 0 (nI 0)) fc ch) 1 (shp (t.2 1) p k (i + 1)))) (by rw [shp_s a3]) ?_
            exact ih_50 (i + 1) (by omega) (by omega) (by omega)
      refine G.mem (S' := tw m S (tws (rem (twf t 0 (nI 0)) fc ch) 1 (shp (t.2 1) p k (k + 1)))) (by rw [shp_0]; exact congrArg (tw m S) (tws_self (t := rem (twf t 0 (nI 0)) fc ch) (j := 1)).symm) ?_
      refine G.locs (L' := [(4, .int (nI (k + 1))), (3, .int (t.2 1 (16 + 10 * p + 3 + k))), (2, .int (nI k)), (1, .int (nI p)), (0, .ref m)]) [0, 1, 4, 3, 2] rfl ?_
      exact key_50tt ((has p) + 1) (k + 1)  (by omega) (by omega) (by omega)
    · replace h_25t := bI_0.mp h_25t
      refine g_aload_n X 0 rfl rfl dX3_takePearl_28 ?_
      refine g_iconst X (nI 2) (by first | rfl | decide) dX3_takePearl_29 ?_
      refine g_callV (st := []) X (sp_X3_fails _ _ _ m S (twf t 0 (nI 0)) hT (nI 2)) q3578 q3580 qs47 q119 q3581 ⟨rfl, (mm_npk 1 rfl (by decide +kernel))⟩ ⟨⟨Nat.le_of_ble_eq_true rfl, Nat.le_of_ble_eq_true rfl⟩, Nat.le_of_ble_eq_true rfl, Nat.le_of_ble_eq_true rfl⟩ mC_X3 (tK0 hT) rfl (Nat.le_of_ble_eq_true rfl) dX3_takePearl_30 (fun _ _ _ h => False.elim h) (fun v_30tf S_30tf p_30tf => ?_)
      obtain ⟨rfl, rfl⟩ := p_30tf
      refine G.eq (show _ = ([.int (nI 0)] : List Value) from rfl) ?_
      exact g_ireturn X Y hr rfl ⟨Nat.le_of_ble_eq_true rfl, Nat.le_of_ble_eq_true rfl⟩ dX3_takePearl_33 (by unfold oTakePearl; rw [if_pos ((ixb_nI (by omega)).mpr hp), if_neg (by rw [cN_nI (by omega)]; exact h_25t)]; exact ⟨rfl, rfl⟩)
  · replace h_10 := bI_0.mp h_10
    refine g_aload_n X 0 rfl rfl dX3_takePearl_13 ?_
    refine g_iconst X (nI 1) (by first | rfl | decide) dX3_takePearl_14 ?_
    refine g_callV (st := []) X (sp_X3_fails _ _ _ m S (twf t 0 (nI 0)) hT (nI 1)) q3578 q3580 qs47 q119 q3581 ⟨rfl, (mm_npk 1 rfl (by decide +kernel))⟩ ⟨⟨Nat.le_of_ble_eq_true rfl, Nat.le_of_ble_eq_true rfl⟩, Nat.le_of_ble_eq_true rfl, Nat.le_of_ble_eq_true rfl⟩ mC_X3 (tK0 hT) rfl (Nat.le_of_ble_eq_true rfl) dX3_takePearl_15 (fun _ _ _ h => False.elim h) (fun v_15f S_15f p_15f => ?_)
    obtain ⟨rfl, rfl⟩ := p_15f
    refine G.eq (show _ = ([.int (nI 0)] : List Value) from rfl) ?_
    exact g_ireturn X Y hr rfl ⟨Nat.le_of_ble_eq_true rfl, Nat.le_of_ble_eq_true rfl⟩ dX3_takePearl_18 (by unfold oTakePearl; rw [if_neg h_10]; exact ⟨rfl, rfl⟩)
set_option maxHeartbeats 4000000 in
set_option maxRecDepth 100000 in
theorem sp_X3_aheadOf (l : Launch) (D : Dg) (B : Nat) (m : Nat) (S : Mm) (t : Tw) (hT : twK B S m) (np : Nat) (hnp : t.2 1 1 = nI np) (hnp6 : np ≤ 6) (has : Nat → Nat) (hhas : ∀ p, p < np → t.2 1 (16 + 10 * p + 2) = nI (has p)) (hhas5 : ∀ p, p < np → has p ≤ 5) (p k : Nat) (hp : p < np) (hk : k < has p) : Sp eI l D B yX3_aheadOf (ws_ yX3_aheadOf cX3_aheadOf 7 (some .int)) (rmL 2 0 0) [.ref m, .int (nI p), .int (nI k)] (tw m S t) (fun v S' => v = ahO (szs (t.2 1)) has p k np ∧ S' = tw m S t) (fun _ _ _ => False) := by
  refine Sp.of cX3_aheadOf 7 (some .int) [(0, .ref m), (1, .int (nI p)), (2, .int (nI k))] rfl (Nat.le_of_ble_eq_true rfl) rfl fun g X Y hr hnm hgl hgD hgB hex => ?_
  subst hgl hgD hgB
  have h5 := hhas5 p hp
  refine g_iconst X (nI 0) (by first | rfl | decide) dX3_aheadOf_0 ?_
  refine g_istore_n (L' := [(3, .int (nI 0)), (0, .ref m), (1, .int (nI p)), (2, .int (nI k))]) X (by decide) rfl rfl dX3_aheadOf_1 ?_
  refine g_iconst X (nI 0) (by first | rfl | decide) dX3_aheadOf_2 ?_
  refine g_istore (L' := [(4, .int (nI 0)), (3, .int (nI 0)), (0, .ref m), (1, .int (nI p)), (2, .int (nI k))]) X (by decide) rfl dX3_aheadOf_3 ?_
  have key_5 : ∀ (k9 q : Nat) , np < q + k9 → q ≤ np → G g 0 0 (tw m S t) 5 [(4, .int (nI q)), (3, .int (ahO (szs (t.2 1)) has p k q)), (2, .int (nI k)), (1, .int (nI p)), (0, .ref m)] [] := by
    intro k9
    induction k9 with
    | zero => intro q  a1 a2; omega
    | succ k9 ih_5 =>
      intro q  a1 a2
      refine g_iload X 0 rfl dX3_aheadOf_5 ?_
      refine g_aload_n X 4 rfl rfl dX3_aheadOf_7 ?_
      refine g_getR (v := some (m + 1)) X mC_X3 5 (by decide) q3511 (mm_same.rf rfl) rfl (tK0 hT) (tR1 hT) dX3_aheadOf_8 ?_
      refine g_iconst X (nI 1) (by first | rfl | decide) dX3_aheadOf_11 ?_
      refine g_iald (v := nI np) X (mm_ix.of rfl (by omega) (by omega)) (tK1 hT) ((tw_A (by decide)).trans (show t.2 1 1 = nI np from hnp)) dX3_aheadOf_12 ?_
      refine g_icmp_ge X dX3_aheadOf_13 (tgt := 115) (by decide) (fun h_13L => ?_) (fun h_13L => ?_)
      · replace h_13L := (nI_leI (by omega) (by omega)).mp h_13L
        refine g_iload_n X 1 rfl rfl dX3_aheadOf_115 ?_
        exact g_ireturn X Y hr rfl ⟨Nat.le_of_ble_eq_true rfl, Nat.le_of_ble_eq_true rfl⟩ dX3_aheadOf_116 (by
            have e : q = np := by omega
            subst e; exact ⟨rfl, rfl⟩)
      · replace h_13L := mt (nI_leI (by omega) (by omega)).mpr h_13L
        have h6 := hhas5 q (by omega)
        refine g_iconst X (nI 0) (by first | rfl | decide) dX3_aheadOf_16 ?_
        refine g_istore (L' := [(5, .int (nI 0)), (4, .int (nI q)), (3, .int (ahO (szs (t.2 1)) has p k q)), (2, .int (nI k)), (1, .int (nI p)), (0, .ref m)]) X (by decide) rfl dX3_aheadOf_17 ?_
        have key_19Lf : ∀ (k9 j : Nat) , (has q) < j + k9 → j ≤ (has q) → G g 0 0 (tw m S t) 19 [(5, .int (nI j)), (4, .int (nI q)), (3, .int (ahO (szs (t.2 1)) has p k q + ahI (szs (t.2 1)) p k q j)), (2, .int (nI k)), (1, .int (nI p)), (0, .ref m)] [] := by
          intro k9
          induction k9 with
          | zero => intro j  a1 a2; omega
          | succ k9 ih_19 =>
            intro j  a1 a2
            refine g_iload X 0 rfl dX3_aheadOf_19 ?_
            refine g_aload_n X 5 rfl rfl dX3_aheadOf_21 ?_
            refine g_iload X 1 rfl dX3_aheadOf_22 ?_
            refine g_iconst X (nI 2) (by first | rfl | decide) dX3_aheadOf_24 ?_
            refine g_callV (st := [.int (nI j)]) X (sp_X3_ofPool _ _ _ m S t hT q 2 (by omega)) q3606 q3608 qs53 q119 q3609 ⟨rfl, (mm_npk 2 rfl (by decide +kernel))⟩ ⟨⟨Nat.le_of_ble_eq_true rfl, Nat.le_of_ble_eq_true rfl⟩, Nat.le_of_ble_eq_true rfl, Nat.le_of_ble_eq_true rfl⟩ mC_X3 (tK0 hT) rfl (Nat.le_of_ble_eq_true rfl) dX3_aheadOf_25 (fun _ _ _ h => False.elim h) (fun v_25LfL S_25LfL p_25LfL => ?_)
            obtain ⟨rfl, rfl⟩ := p_25LfL
            refine G.eq (show _ = ([.int (nI (has q)), .int (nI j)] : List Value) by rw [show t.2 1 (16 + 10 * q + 2) = nI (has q) from (show t.2 1 (16 + 10 * q + 2) = nI (has q) from (hhas q (by omega)))]; rfl) ?_
            refine g_icmp_ge X dX3_aheadOf_28 (tgt := 109) (by decide) (fun h_28LfL => ?_) (fun h_28LfL => ?_)
            · replace h_28LfL := (nI_leI (by omega) (by omega)).mp h_28LfL
              refine g_iinc (L' := [(4, .int (nI (q + 1))), (5, .int (nI j)), (3, .int (ahO (szs (t.2 1)) has p k q + ahI (szs (t.2 1)) p k q j)), (2, .int (nI k)), (1, .int (nI p)), (0, .ref m)]) X 1 (nI (q + 1)) rfl (nI_1 _) (by decide) rfl dX3_aheadOf_109 ?_
              refine g_goto X dX3_aheadOf_112 (tgt := 5) (by decide) ?_
              have e : j = has q := by omega
              subst e
              refine G.locs (L' := [(4, .int (nI (q + 1))), (3, .int (ahO (szs (t.2 1)) has p k (q + 1))), (2, .int (nI k)), (1, .int (nI p)), (0, .ref m)]) [0, 2, 3, 4, 5] rfl ?_
              exact ih_5 (q + 1) (by omega) (by omega)
            · replace h_28LfL := mt (nI_leI (by omega) (by omega)).mpr h_28LfL
              have jn1_LfLf : G g 0 0 (tw m S t) 54 [(5, .int (nI j)), (4, .int (nI q)), (3, .int (ahO (szs (t.2 1)) has p k q + ahI (szs (t.2 1)) p k q j)), (2, .int (nI k)), (1, .int (nI p)), (0, .ref m)] [.int (bI (q < p ∨ (q = p ∧ j < k)))] := by
                refine g_istore (L' := [(6, .int (bI (q < p ∨ (q = p ∧ j < k)))), (5, .int (nI j)), (4, .int (nI q)), (3, .int (ahO (szs (t.2 1)) has p k q + ahI (szs (t.2 1)) p k q j)), (2, .int (nI k)), (1, .int (nI p)), (0, .ref m)]) X (by decide) rfl dX3_aheadOf_54 ?_
                refine g_iload_n X 3 rfl rfl dX3_aheadOf_56 ?_
                have jn2_LfLfJ : G g 0 0 (tw m S t) 101 [(6, .int (bI (q < p ∨ (q = p ∧ j < k)))), (5, .int (nI j)), (4, .int (nI q)), (3, .int (ahO (szs (t.2 1)) has p k q + ahI (szs (t.2 1)) p k q j)), (2, .int (nI k)), (1, .int (nI p)), (0, .ref m)] [.int (bI (szs (t.2 1) p k < szs (t.2 1) q j ∨ (szs (t.2 1) q j = szs (t.2 1) p k ∧ (q < p ∨ (q = p ∧ j < k))))), .int (ahO (szs (t.2 1)) has p k q + ahI (szs (t.2 1)) p k q j)] := by
                  refine g_iadd X dX3_aheadOf_101 ?_
                  refine G.eq (show _ = (.int (ahO (szs (t.2 1)) has p k q + ahI (szs (t.2 1)) p k q (j + 1)) :: _ : List Value) from by rw [Int32.add_assoc]; rfl) ?_
                  refine g_istore_n (L' := [(3, .int (ahO (szs (t.2 1)) has p k q + ahI (szs (t.2 1)) p k q (j + 1))), (6, .int (bI (q < p ∨ (q = p ∧ j < k)))), (5, .int (nI j)), (4, .int (nI q)), (2, .int (nI k)), (1, .int (nI p)), (0, .ref m)]) X (by decide) rfl rfl dX3_aheadOf_102 ?_
                  refine g_iinc (L' := [(5, .int (nI (j + 1))), (3, .int (ahO (szs (t.2 1)) has p k q + ahI (szs (t.2 1)) p k q (j + 1))), (6, .int (bI (q < p ∨ (q = p ∧ j < k)))), (4, .int (nI q)), (2, .int (nI k)), (1, .int (nI p)), (0, .ref m)]) X 2 (nI (j + 1)) rfl (nI_1 _) (by decide) rfl dX3_aheadOf_103 ?_
                  refine g_goto X dX3_aheadOf_106 (tgt := 19) (by decide) ?_
                  refine G.locs (L' := [(5, .int (nI (j + 1))), (4, .int (nI q)), (3, .int (ahO (szs (t.2 1)) has p k q + ahI (szs (t.2 1)) p k q (j + 1))), (2, .int (nI k)), (1, .int (nI p)), (0, .ref m)]) [0, 3, 1, 4, 5, 6] rfl ?_
                  exact ih_19 (j + 1) (by omega) (by omega)
                refine g_aload_n X 6 rfl rfl dX3_aheadOf_57 ?_
                refine g_iload X 2 rfl dX3_aheadOf_58 ?_
                refine g_iload X 1 rfl dX3_aheadOf_60 ?_
                refine g_callV (st := [.int (ahO (szs (t.2 1)) has p k q + ahI (szs (t.2 1)) p k q j)]) X (sp_X3_sizeOf _ _ _ m S t hT q j (by omega)) q3634 q3636 qs58 q119 q3637 ⟨rfl, (mm_npk 2 rfl (by decide +kernel))⟩ ⟨⟨Nat.le_of_ble_eq_true rfl, Nat.le_of_ble_eq_true rfl⟩, Nat.le_of_ble_eq_true rfl, Nat.le_of_ble_eq_true rfl⟩ mC_X3 (tK0 hT) rfl (Nat.le_of_ble_eq_true rfl) dX3_aheadOf_62 (fun _ _ _ h => False.elim h) (fun v_62LfLfJ S_62LfLfJ p_62LfLfJ => ?_)
                obtain ⟨rfl, rfl⟩ := p_62LfLfJ
                refine G.eq (show _ = ([.int (t.2 1 (16 + 10 * q + 3 + j)), .int (ahO (szs (t.2 1)) has p k q + ahI (szs (t.2 1)) p k q j)] : List Value) from rfl) ?_
                refine g_aload_n X 6 rfl rfl dX3_aheadOf_65 ?_
                refine g_iload_n X 5 rfl rfl dX3_aheadOf_66 ?_
                refine g_iload_n X 4 rfl rfl dX3_aheadOf_67 ?_
                refine g_callV (st := [.int (t.2 1 (16 + 10 * q + 3 + j)), .int (ahO (szs (t.2 1)) has p k q + ahI (szs (t.2 1)) p k q j)]) X (sp_X3_sizeOf _ _ _ m S t hT p k (by omega)) q3634 q3636 qs58 q119 q3637 ⟨rfl, (mm_npk 2 rfl (by decide +kernel))⟩ ⟨⟨Nat.le_of_ble_eq_true rfl, Nat.le_of_ble_eq_true rfl⟩, Nat.le_of_ble_eq_true rfl, Nat.le_of_ble_eq_true rfl⟩ mC_X3 (tK0 hT) rfl (Nat.le_of_ble_eq_true rfl) dX3_aheadOf_68 (fun _ _ _ h => False.elim h) (fun v_68LfLfJ S_68LfLfJ p_68LfLfJ => ?_)
                obtain ⟨rfl, rfl⟩ := p_68LfLfJ
                refine G.eq (show _ = ([.int (t.2 1 (16 + 10 * p + 3 + k)), .int (t.2 1 (16 + 10 * q + 3 + j)), .int (ahO (szs (t.2 1)) has p k q + ahI (szs (t.2 1)) p k q j)] : List Value) from rfl) ?_
                refine g_icmp_gt X dX3_aheadOf_71 (tgt := 96) (by decide) (fun h_71LfLfJ => ?_) (fun h_71LfLfJ => ?_)
                · refine g_iconst X (nI 1) (by first | rfl | decide) dX3_aheadOf_96 ?_
                  refine g_goto X dX3_aheadOf_97 (tgt := 101) (by decide) ?_
                  exact G.eq (show _ = ([.int (bI (szs (t.2 1) p k < szs (t.2 1) q j ∨ (szs (t.2 1) q j = szs (t.2 1) p k ∧ (q < p ∨ (q = p ∧ j < k))))), .int (ahO (szs (t.2 1)) has p k q + ahI (szs (t.2 1)) p k q j)] : List Value) by rw [bI_t (P := szs (t.2 1) p k < szs (t.2 1) q j ∨ (szs (t.2 1) q j = szs (t.2 1) p k ∧ (q < p ∨ (q = p ∧ j < k)))) (Or.inl h_71LfLfJ)]) jn2_LfLfJ
                · refine g_aload_n X 6 rfl rfl dX3_aheadOf_74 ?_
                  refine g_iload X 2 rfl dX3_aheadOf_75 ?_
                  refine g_iload X 1 rfl dX3_aheadOf_77 ?_
                  refine g_callV (st := [.int (ahO (szs (t.2 1)) has p k q + ahI (szs (t.2 1)) p k q j)]) X (sp_X3_sizeOf _ _ _ m S t hT q j (by omega)) q3634 q3636 qs58 q119 q3637 ⟨rfl, (mm_npk 2 rfl (by decide +kernel))⟩ ⟨⟨Nat.le_of_ble_eq_true rfl, Nat.le_of_ble_eq_true rfl⟩, Nat.le_of_ble_eq_true rfl, Nat.le_of_ble_eq_true rfl⟩ mC_X3 (tK0 hT) rfl (Nat.le_of_ble_eq_true rfl) dX3_aheadOf_79 (fun _ _ _ h => False.elim h) (fun v_79LfLfJf S_79LfLfJf p_79LfLfJf => ?_)
                  obtain ⟨rfl, rfl⟩ := p_79LfLfJf
                  refine G.eq (show _ = ([.int (t.2 1 (16 + 10 * q + 3 + j)), .int (ahO (szs (t.2 1)) has p k q + ahI (szs (t.2 1)) p k q j)] : List Value) from rfl) ?_
                  refine g_aload_n X 6 rfl rfl dX3_aheadOf_82 ?_
                  refine g_iload_n X 5 rfl rfl dX3_aheadOf_83 ?_
                  refine g_iload_n X 4 rfl rfl dX3_aheadOf_84 ?_
                  refine g_callV (st := [.int (t.2 1 (16 + 10 * q + 3 + j)), .int (ahO (szs (t.2 1)) has p k q + ahI (szs (t.2 1)) p k q j)]) X (sp_X3_sizeOf _ _ _ m S t hT p k (by omega)) q3634 q3636 qs58 q119 q3637 ⟨rfl, (mm_npk 2 rfl (by decide +kernel))⟩ ⟨⟨Nat.le_of_ble_eq_true rfl, Nat.le_of_ble_eq_true rfl⟩, Nat.le_of_ble_eq_true rfl, Nat.le_of_ble_eq_true rfl⟩ mC_X3 (tK0 hT) rfl (Nat.le_of_ble_eq_true rfl) dX3_aheadOf_85 (fun _ _ _ h => False.elim h) (fun v_85LfLfJf S_85LfLfJf p_85LfLfJf => ?_)
                  obtain ⟨rfl, rfl⟩ := p_85LfLfJf
                  refine G.eq (show _ = ([.int (t.2 1 (16 + 10 * p + 3 + k)), .int (t.2 1 (16 + 10 * q + 3 + j)), .int (ahO (szs (t.2 1)) has p k q + ahI (szs (t.2 1)) p k q j)] : List Value) from rfl) ?_
                  refine g_icmp_ne X dX3_aheadOf_88 (tgt := 100) (by decide) (fun h_88LfLfJf => ?_) (fun h_88LfLfJf => ?_)
                  · refine g_iconst X (nI 0) (by first | rfl | decide) dX3_aheadOf_100 ?_
                    exact G.eq (show _ = ([.int (bI (szs (t.2 1) p k < szs (t.2 1) q j ∨ (szs (t.2 1) q j = szs (t.2 1) p k ∧ (q < p ∨ (q = p ∧ j < k))))), .int (ahO (szs (t.2 1)) has p k q + ahI (szs (t.2 1)) p k q j)] : List Value) by rw [bI_f (P := szs (t.2 1) p k < szs (t.2 1) q j ∨ (szs (t.2 1) q j = szs (t.2 1) p k ∧ (q < p ∨ (q = p ∧ j < k)))) (fun z => z.elim h_71LfLfJ (fun z => h_88LfLfJf z.1))]) jn2_LfLfJ
                  · refine g_iload X 0 rfl dX3_aheadOf_91 ?_
                    refine g_if_eq X dX3_aheadOf_93 (tgt := 100) (by decide) (fun h_93LfLfJff => ?_) (fun h_93LfLfJff => ?_)
                    · replace h_93LfLfJff := bI_0.mp h_93LfLfJff
                      refine g_iconst X (nI 0) (by first | rfl | decide) dX3_aheadOf_100 ?_
                      exact G.eq (show _ = ([.int (bI (szs (t.2 1) p k < szs (t.2 1) q j ∨ (szs (t.2 1) q j = szs (t.2 1) p k ∧ (q < p ∨ (q = p ∧ j < k))))), .int (ahO (szs (t.2 1)) has p k q + ahI (szs (t.2 1)) p k q j)] : List Value) by rw [bI_f (P := szs (t.2 1) p k < szs (t.2 1) q j ∨ (szs (t.2 1) q j = szs (t.2 1) p k ∧ (q < p ∨ (q = p ∧ j < k)))) (fun z => z.elim h_71LfLfJ (fun z => h_93LfLfJff z.2))]) jn2_LfLfJ
                    · replace h_93LfLfJff := bI_1.mp h_93LfLfJff
                      refine g_iconst X (nI 1) (by first | rfl | decide) dX3_aheadOf_96 ?_
                      refine g_goto X dX3_aheadOf_97 (tgt := 101) (by decide) ?_
                      exact G.eq (show _ = ([.int (bI (szs (t.2 1) p k < szs (t.2 1) q j ∨ (szs (t.2 1) q j = szs (t.2 1) p k ∧ (q < p ∨ (q = p ∧ j < k))))), .int (ahO (szs (t.2 1)) has p k q + ahI (szs (t.2 1)) p k q j)] : List Value) by rw [bI_t (P := szs (t.2 1) p k < szs (t.2 1) q j ∨ (szs (t.2 1) q j = szs (t.2 1) p k ∧ (q < p ∨ (q = p ∧ j < k)))) (Or.inr ⟨h_88LfLfJf, h_93LfLfJff⟩)]) jn2_LfLfJ
              refine g_iload X 1 rfl dX3_aheadOf_31 ?_
              refine g_iload_n X 4 rfl rfl dX3_aheadOf_33 ?_
              refine g_icmp_lt X dX3_aheadOf_34 (tgt := 49) (by decide) (fun h_34LfLf => ?_) (fun h_34LfLf => ?_)
              · replace h_34LfLf := (nI_ltI (by omega) (by omega)).mp h_34LfLf
                refine g_iconst X (nI 1) (by first | rfl | decide) dX3_aheadOf_49 ?_
                refine g_goto X dX3_aheadOf_50 (tgt := 54) (by decide) ?_
                exact G.eq (show _ = ([.int (bI (q < p ∨ (q = p ∧ j < k)))] : List Value) by rw [bI_t (P := q < p ∨ (q = p ∧ j < k)) (by omega)]) jn1_LfLf
              · replace h_34LfLf := mt (nI_ltI (by omega) (by omega)).mpr h_34LfLf
                refine g_iload X 1 rfl dX3_aheadOf_37 ?_
                refine g_iload_n X 4 rfl rfl dX3_aheadOf_39 ?_
                refine g_icmp_ne X dX3_aheadOf_40 (tgt := 53) (by decide) (fun h_40LfLff => ?_) (fun h_40LfLff => ?_)
                · replace h_40LfLff := mt (nI_eq (by omega) (by omega)).mpr h_40LfLff
                  refine g_iconst X (nI 0) (by first | rfl | decide) dX3_aheadOf_53 ?_
                  exact G.eq (show _ = ([.int (bI (q < p ∨ (q = p ∧ j < k)))] : List Value) by rw [bI_f (P := q < p ∨ (q = p ∧ j < k)) (by omega)]) jn1_LfLf
                · replace h_40LfLff := (nI_eq (by omega) (by omega)).mp h_40LfLff
                  refine g_iload X 0 rfl dX3_aheadOf_43 ?_
                  refine g_iload_n X 3 rfl rfl dX3_aheadOf_45 ?_
                  refine g_icmp_ge X dX3_aheadOf_46 (tgt := 53) (by decide) (fun h_46LfLfff => ?_) (fun h_46LfLfff => ?_)
                  · replace h_46LfLfff := (nI_leI (by omega) (by omega)).mp h_46LfLfff
                    refine g_iconst X (nI 0) (by first | rfl | decide) dX3_aheadOf_53 ?_
                    exact G.eq (show _ = ([.int (bI (q < p ∨ (q = p ∧ j < k)))] : List Value) by rw [bI_f (P := q < p ∨ (q = p ∧ j < k)) (by omega)]) jn1_LfLf
                  · replace h_46LfLfff := mt (nI_leI (by omega) (by omega)).mpr h_46LfLfff
                    refine g_iconst X (nI 1) (by first | rfl | decide) dX3_aheadOf_49 ?_
                    refine g_goto X dX3_aheadOf_50 (tgt := 54) (by decide) ?_
                    exact G.eq (show _ = ([.int (bI (q < p ∨ (q = p ∧ j < k)))] : List Value) by rw [bI_t (P := q < p ∨ (q = p ∧ j < k)) (by omega)]) jn1_LfLf
        refine G.locs (L' := [(5, .int (nI 0)), (4, .int (nI q)), (3, .int (ahO (szs (t.2 1)) has p k q + ahI (szs (t.2 1)) p k q 0)), (2, .int (nI k)), (1, .int (nI p)), (0, .ref m)]) [0, 1, 2, 3, 4, 5] (by rw [show ahO (szs (t.2 1)) has p k q + ahI (szs (t.2 1)) p k q 0 = ahO (szs (t.2 1)) has p k q from nI_add0 _]; rfl) ?_
        exact key_19Lf ((has q) + 1) 0  (by omega) (by omega)
  refine G.locs (L' := [(4, .int (nI 0)), (3, .int (ahO (szs (t.2 1)) has p k 0)), (2, .int (nI k)), (1, .int (nI p)), (0, .ref m)]) [0, 1, 4, 3, 2] rfl ?_
  exact key_5 (np + 1) 0  (by omega) (by omega)
set_option maxHeartbeats 4000000 in
set_option maxRecDepth 100000 in
theorem sp_X3_ranked (l : Launch) (D : Dg) (B : Nat) (m : Nat) (S : Mm) (t : Tw) (hT : twK B S m) (np : Nat) (hnp : t.2 1 1 = nI np) (hnp6 : np ≤ 6) (has : Nat → Nat) (hhas : ∀ p, p < np → t.2 1 (16 + 10 * p + 2) = nI (has p)) (hhas5 : ∀ p, p < np → has p ≤ 5) (x : Int32) : Sp eI l D B yX3_ranked (ws_ yX3_ranked cX3_ranked 4 (some .int)) (rmL 3 0 0) [.ref m, .int x] (tw m S t) (fun v S' => v = (oRanked t np has x).1 ∧ S' = tw m S ((oRanked t np has x).2)) (fun _ _ _ => False) := by
  refine Sp.of cX3_ranked 4 (some .int) [(0, .ref m), (1, .int x)] rfl (Nat.le_of_ble_eq_true rfl) rfl fun g X Y hr hnm hgl hgD hgB hex => ?_
  subst hgl hgD hgB
  refine g_aload_n X 0 rfl rfl dX3_ranked_0 ?_
  refine g_iconst X (nI 0) (by first | rfl | decide) dX3_ranked_1 ?_
  refine g_putV (S' := tw m S (twf t 0 (nI 0))) X mC_X3 0 (by decide) q3506 (mm_same.rf rfl) rfl (tK0 hT) (fun h => absurd h (by decide)) rfl rfl (.inl ⟨nI 0, rfl, rfl, tw_sI.symm⟩) dX3_ranked_2 ?_
  refine g_iconst X (nI 0) (by first | rfl | decide) dX3_ranked_5 ?_
  refine g_istore_n (L' := [(2, .int (nI 0)), (0, .ref m), (1, .int x)]) X (by decide) rfl rfl dX3_ranked_6 ?_
  have key_7 : ∀ (k9 q : Nat) , np < q + k9 → q ≤ np → rkO (fun p k => ahO (szs (t.2 1)) has p k np = x) has q = none → G g 0 0 (tw m S (twf t 0 (nI 0))) 7 [(2, .int (nI q)), (1, .int x), (0, .ref m)] [] := by
    intro k9
    induction k9 with
    | zero => intro q  a1 a2; omega
    | succ k9 ih_7 =>
      intro q  a1 a2 r1
      refine g_iload_n X 0 rfl rfl dX3_ranked_7 ?_
      refine g_aload_n X 2 rfl rfl dX3_ranked_8 ?_
      refine g_getR (v := some (m + 1)) X mC_X3 5 (by decide) q3511 (mm_same.rf rfl) rfl (tK0 hT) (tR1 hT) dX3_ranked_9 ?_
      refine g_iconst X (nI 1) (by first | rfl | decide) dX3_ranked_12 ?_
      refine g_iald (v := nI np) X (mm_ix.of rfl (by omega) (by omega)) (tK1 hT) ((tw_A (by decide)).trans (show t.2 1 1 = nI np from hnp)) dX3_ranked_13 ?_
      refine g_icmp_ge X dX3_ranked_14 (tgt := 58) (by decide) (fun h_14L => ?_) (fun h_14L => ?_)
      · replace h_14L := (nI_leI (by omega) (by omega)).mp h_14L
        refine g_aload_n X 2 rfl rfl dX3_ranked_58 ?_
        refine g_iconst X (nI 1) (by first | rfl | decide) dX3_ranked_59 ?_
        refine g_callV (st := []) X (sp_X3_fails _ _ _ m S (twf t 0 (nI 0)) hT (nI 1)) q3578 q3580 qs47 q119 q3581 ⟨rfl, (mm_npk 1 rfl (by decide +kernel))⟩ ⟨⟨Nat.le_of_ble_eq_true rfl, Nat.le_of_ble_eq_true rfl⟩, Nat.le_of_ble_eq_true rfl, Nat.le_of_ble_eq_true rfl⟩ mC_X3 (tK0 hT) rfl (Nat.le_of_ble_eq_true rfl) dX3_ranked_60 (fun _ _ _ h => False.elim h) (fun v_60Lt S_60Lt p_60Lt => ?_)
        obtain ⟨rfl, rfl⟩ := p_60Lt
        refine G.eq (show _ = ([.int (nI 0)] : List Value) from rfl) ?_
        exact g_ireturn X Y hr rfl ⟨Nat.le_of_ble_eq_true rfl, Nat.le_of_ble_eq_true rfl⟩ dX3_ranked_63 (by
            have e : q = np := by omega
            subst e
            unfold oRanked; rw [r1]; exact ⟨rfl, rfl⟩)
      · replace h_14L := mt (nI_leI (by omega) (by omega)).mpr h_14L
        have h6 := hhas5 q (by omega)
        refine g_iconst X (nI 0) (by first | rfl | decide) dX3_ranked_17 ?_
        refine g_istore_n (L' := [(3, .int (nI 0)), (2, .int (nI q)), (1, .int x), (0, .ref m)]) X (by decide) rfl rfl dX3_ranked_18 ?_
        have key_19Lf : ∀ (k9 j : Nat) , (has q) < j + k9 → j ≤ (has q) → rkI (fun p k => ahO (szs (t.2 1)) has p k np = x) q j = none → G g 0 0 (tw m S (twf t 0 (nI 0))) 19 [(3, .int (nI j)), (2, .int (nI q)), (1, .int x), (0, .ref m)] [] := by
          intro k9
          induction k9 with
          | zero => intro j  a1 a2; omega
          | succ k9 ih_19 =>
            intro j  a1 a2 r2
            refine g_iload_n X 0 rfl rfl dX3_ranked_19 ?_
            refine g_aload_n X 3 rfl rfl dX3_ranked_20 ?_
            refine g_iload_n X 1 rfl rfl dX3_ranked_21 ?_
            refine g_iconst X (nI 2) (by first | rfl | decide) dX3_ranked_22 ?_
            refine g_callV (st := [.int (nI j)]) X (sp_X3_ofPool _ _ _ m S (twf t 0 (nI 0)) hT q 2 (by omega)) q3606 q3608 qs53 q119 q3609 ⟨rfl, (mm_npk 2 rfl (by decide +kernel))⟩ ⟨⟨Nat.le_of_ble_eq_true rfl, Nat.le_of_ble_eq_true rfl⟩, Nat.le_of_ble_eq_true rfl, Nat.le_of_ble_eq_true rfl⟩ mC_X3 (tK0 hT) rfl (Nat.le_of_ble_eq_true rfl) dX3_ranked_23 (fun _ _ _ h => False.elim h) (fun v_23LfL S_23LfL p_23LfL => ?_)
            obtain ⟨rfl, rfl⟩ := p_23LfL
            refine G.eq (show _ = ([.int (nI (has q)), .int (nI j)] : List Value) by rw [show (twf t 0 (nI 0)).2 1 (16 + 10 * q + 2) = nI (has q) from (show t.2 1 (16 + 10 * q + 2) = nI (has q) from (hhas q (by omega)))]; rfl) ?_
            refine g_icmp_ge X dX3_ranked_26 (tgt := 52) (by decide) (fun h_26LfL => ?_) (fun h_26LfL => ?_)
            · replace h_26LfL := (nI_leI (by omega) (by omega)).mp h_26LfL
              refine g_iinc (L' := [(2, .int (nI (q + 1))), (3, .int (nI j)), (1, .int x), (0, .ref m)]) X 1 (nI (q + 1)) rfl (nI_1 _) (by decide) rfl dX3_ranked_52 ?_
              refine g_goto X dX3_ranked_55 (tgt := 7) (by decide) ?_
              have e : j = has q := by omega
              subst e
              refine G.locs (L' := [(2, .int (nI (q + 1))), (1, .int x), (0, .ref m)]) [0, 2, 3] rfl ?_
              exact ih_7 (q + 1) (by omega) (by omega) (rkO_none r1 r2)
            · replace h_26LfL := mt (nI_leI (by omega) (by omega)).mpr h_26LfL
              refine g_aload_n X 3 rfl rfl dX3_ranked_29 ?_
              refine g_iload_n X 1 rfl rfl dX3_ranked_30 ?_
              refine g_iload_n X 0 rfl rfl dX3_ranked_31 ?_
              refine g_callV (st := []) X (sp_X3_aheadOf _ _ _ m S (twf t 0 (nI 0)) hT np hnp hnp6 has hhas hhas5 q j (by omega) (by omega)) q3646 q3648 qs59 q119 q3649 ⟨rfl, (mm_npk 2 rfl (by decide +kernel))⟩ ⟨⟨Nat.le_of_ble_eq_true rfl, Nat.le_of_ble_eq_true rfl⟩, Nat.le_of_ble_eq_true rfl, Nat.le_of_ble_eq_true rfl⟩ mC_X3 (tK0 hT) rfl (Nat.le_of_ble_eq_true rfl) dX3_ranked_32 (fun _ _ _ h => False.elim h) (fun v_32LfLf S_32LfLf p_32LfLf => ?_)
              obtain ⟨rfl, rfl⟩ := p_32LfLf
              refine G.eq (show _ = ([.int (ahO (szs (t.2 1)) has q j np)] : List Value) from rfl) ?_
              refine g_iload_n X 2 rfl rfl dX3_ranked_35 ?_
              refine g_icmp_ne X dX3_ranked_36 (tgt := 46) (by decide) (fun h_36LfLf => ?_) (fun h_36LfLf => ?_)
              · refine g_iinc (L' := [(3, .int (nI (j + 1))), (2, .int (nI q)), (1, .int x), (0, .ref m)]) X 0 (nI (j + 1)) rfl (nI_1 _) (by decide) rfl dX3_ranked_46 ?_
                refine g_goto X dX3_ranked_49 (tgt := 19) (by decide) ?_
                exact ih_19 (j + 1) (by omega) (by omega) (rkI_none r2 h_36LfLf)
              · refine g_bipush X (nI 10) (by first | rfl | decide) dX3_ranked_39 ?_
                refine g_iload_n X 1 rfl rfl dX3_ranked_41 ?_
                refine g_imulN X rfl dX3_ranked_42 ?_
                refine g_iload_n X 0 rfl rfl dX3_ranked_43 ?_
                refine g_iaddN X rfl dX3_ranked_44 ?_
                exact g_ireturn X Y hr rfl ⟨Nat.le_of_ble_eq_true rfl, Nat.le_of_ble_eq_true rfl⟩ dX3_ranked_45 (by
                    unfold oRanked
                    rw [rkO_some r1 (rkI_some r2 h_36LfLf _ (by omega)) np (by omega)]; exact ⟨rfl, rfl⟩)
        skip
        exact key_19Lf ((has q) + 1) 0  (by omega) (by omega) rfl
  refine G.locs (L' := [(2, .int (nI 0)), (1, .int x), (0, .ref m)]) [0, 2, 1] rfl ?_
  exact key_7 (np + 1) 0  (by omega) (by omega) rfl
set_option maxHeartbeats 4000000 in
set_option maxRecDepth 100000 in
theorem sp_X3_addStone (l : Launch) (D : Dg) (B : Nat) (m : Nat) (S : Mm) (t : Tw) (hT : twK B S m) (np : Nat) (hnp : t.2 1 1 = nI np) (hnp6 : np ≤ 6) (ns : Nat) (hns : t.2 1 2 = nI ns) (hns8 : ns ≤ 8) (fc ch : Nat) (hfc : t.1 10 = nI fc) (hfc8 : fc < 8) (hch : t.1 9 = nI ch) (hch8 : ch ≤ 8) (x y : Int32) : Sp eI l D B yX3_addStone (ws_ yX3_addStone cX3_addStone 4 (some .int)) (rmL 3 0 0) [.ref m, .int x, .int y] (tw m S t) (fun v S' => v = (oAddStone t np ns fc ch x y).1 ∧ S' = tw m S ((oAddStone t np ns fc ch x y).2)) (fun _ _ _ => False) := by
  refine Sp.of cX3_addStone 4 (some .int) [(0, .ref m), (1, .int x), (2, .int y)] rfl (Nat.le_of_ble_eq_true rfl) rfl fun g X Y hr hnm hgl hgD hgB hex => ?_
  subst hgl hgD hgB
  refine g_aload_n X 0 rfl rfl dX3_addStone_0 ?_
  refine g_iconst X (nI 0) (by first | rfl | decide) dX3_addStone_1 ?_
  refine g_putV (S' := tw m S (twf t 0 (nI 0))) X mC_X3 0 (by decide) q3506 (mm_same.rf rfl) rfl (tK0 hT) (fun h => absurd h (by decide)) rfl rfl (.inl ⟨nI 0, rfl, rfl, tw_sI.symm⟩) dX3_addStone_2 ?_
  refine g_aload_n X 0 rfl rfl dX3_addStone_5 ?_
  refine g_iload_n X 1 rfl rfl dX3_addStone_6 ?_
  refine g_callV (st := []) X (sp_X3_isPool _ _ _ m S (twf t 0 (nI 0)) hT x np hnp (by omega)) q3602 q3604 qs52 q119 q3605 ⟨rfl, (mm_npk 1 rfl (by decide +kernel))⟩ ⟨⟨Nat.le_of_ble_eq_true rfl, Nat.le_of_ble_eq_true rfl⟩, Nat.le_of_ble_eq_true rfl, Nat.le_of_ble_eq_true rfl⟩ mC_X3 (tK0 hT) rfl (Nat.le_of_ble_eq_true rfl) dX3_addStone_7 (fun _ _ _ h => False.elim h) (fun v_7 S_7 p_7 => ?_)
  obtain ⟨rfl, rfl⟩ := p_7
  refine G.eq (show _ = ([.int (bI (ixb x np))] : List Value) from rfl) ?_
  refine g_if_ne X dX3_addStone_10 (tgt := 19) (by decide) (fun h_10 => ?_) (fun h_10 => ?_)
  · replace h_10 := bI_1.mp h_10
    obtain ⟨p, hp, rfl⟩ := ixb_of h_10
    refine g_iload_n X 2 rfl rfl dX3_addStone_19 ?_
    refine g_iconst X (nI 1) (by first | rfl | decide) dX3_addStone_20 ?_
    refine g_bipush X (nI 20) (by first | rfl | decide) dX3_addStone_21 ?_
    refine g_callS (st := []) X (sp_X3_isBetween _ _ _ (tw m S (twf t 0 (nI 0))) y (nI 1) (nI 20)) q3575 q3576 q119 q3577 (mm_npk 3 rfl (by decide +kernel)) ⟨⟨Nat.le_of_ble_eq_true rfl, Nat.le_of_ble_eq_true rfl⟩, Nat.le_of_ble_eq_true rfl, Nat.le_of_ble_eq_true rfl⟩ rfl (Nat.le_of_ble_eq_true rfl) dX3_addStone_23 (fun _ _ _ h => False.elim h) (fun v_23t S_23t p_23t => ?_)
    obtain ⟨rfl, rfl⟩ := p_23t
    refine G.eq (show _ = ([.int (bI ((nI 1) ≤ y ∧ y ≤ (nI 20)))] : List Value) from rfl) ?_
    refine g_if_ne X dX3_addStone_26 (tgt := 35) (by decide) (fun h_26t => ?_) (fun h_26t => ?_)
    · replace h_26t := bI_1.mp h_26t
      refine g_aload_n X 0 rfl rfl dX3_addStone_35 ?_
      refine g_getR (v := some (m + 1)) X mC_X3 5 (by decide) q3511 (mm_same.rf rfl) rfl (tK0 hT) (tR1 hT) dX3_addStone_36 ?_
      refine g_iconst X (nI 2) (by first | rfl | decide) dX3_addStone_39 ?_
      refine g_iald (v := nI ns) X (mm_ix.of rfl (by omega) (by omega)) (tK1 hT) ((tw_A (by decide)).trans (show t.2 1 2 = nI ns from hns)) dX3_addStone_40 ?_
      refine g_bipush X (nI 8) (by first | rfl | decide) dX3_addStone_41 ?_
      refine g_icmp_ne X dX3_addStone_43 (tgt := 55) (by decide) (fun h_43tt => ?_) (fun h_43tt => ?_)
      · replace h_43tt := mt (nI_eq (by omega) (by omega)).mpr h_43tt
        refine g_aload_n X 0 rfl rfl dX3_addStone_55 ?_
        refine g_callV (st := []) X (sp_X3_remembers _ _ _ m S (twf t 0 (nI 0)) hT fc ch hfc hfc8 hch hch8) q3586 q3588 qs49 q119 q3589 ⟨rfl, (mm_npk 0 rfl (by decide +kernel))⟩ ⟨⟨Nat.le_of_ble_eq_true rfl, Nat.le_of_ble_eq_true rfl⟩, Nat.le_of_ble_eq_true rfl, Nat.le_of_ble_eq_true rfl⟩ mC_X3 (tK0 hT) rfl (Nat.le_of_ble_eq_true rfl) dX3_addStone_56 (fun _ _ _ h => False.elim h) (fun v_56ttt S_56ttt p_56ttt => ?_)
        obtain rfl := p_56ttt
        refine G.eq (show _ = ([] : List Value) from rfl) ?_
        refine g_aload_n X 0 rfl rfl dX3_addStone_59 ?_
        refine g_getR (v := some (m + 1)) X mC_X3 5 (by decide) q3511 (mm_same.rf rfl) rfl (tK0 hT) (tR1 hT) dX3_addStone_60 ?_
        refine g_iconst X (nI 2) (by first | rfl | decide) dX3_addStone_63 ?_
        refine g_iald (v := nI ns) X (mm_ix.of rfl (by omega) (by omega)) (tK1 hT) ((tw_A (by decide)).trans (show t.2 1 2 = nI ns from hns)) dX3_addStone_64 ?_
        refine g_istore_n (L' := [(3, .int (nI ns)), (0, .ref m), (1, .int (nI p)), (2, .int y)]) X (by decide) rfl rfl dX3_addStone_65 ?_
        refine g_aload_n X 1 rfl rfl dX3_addStone_66 ?_
        refine g_getR (v := some (m + 1)) X mC_X3 5 (by decide) q3511 (mm_same.rf rfl) rfl (tK0 hT) (tR1 hT) dX3_addStone_67 ?_
        refine g_iconst X (nI 2) (by first | rfl | decide) dX3_addStone_70 ?_
        refine g_dup2 X rfl rfl dX3_addStone_71 ?_
        refine g_iald (v := nI ns) X (mm_ix.of rfl (by omega) (by omega)) (tK1 hT) ((tw_A (by decide)).trans (show t.2 1 2 = nI ns from hns)) dX3_addStone_72 ?_
        refine g_iconst X (nI 1) (by first | rfl | decide) dX3_addStone_73 ?_
        refine g_iaddN X rfl dX3_addStone_74 ?_
        refine g_iast (v := nI (ns + 1)) (S' := tw m S (tws (rem (twf t 0 (nI 0)) fc ch) 1 (upd (t.2 1) 2 (nI (ns + 1))))) X (mm_ix.of rfl (by omega) (by omega)) (tK1 hT) (tB1 hT) rfl (tw_sA (by decide)) dX3_addStone_75 ?_
        refine g_aload_n X 1 rfl rfl dX3_addStone_76 ?_
        refine g_iload_n X 0 rfl rfl dX3_addStone_77 ?_
        refine g_iconst X (nI 0) (by first | rfl | decide) dX3_addStone_78 ?_
        refine g_iload_n X 2 rfl rfl dX3_addStone_79 ?_
        refine g_callV (st := []) X (sp_X3_setsStone _ _ _ m S (tws (rem (twf t 0 (nI 0)) fc ch) 1 (upd (t.2 1) 2 (nI (ns + 1)))) hT ns 0 (by omega) (nI p)) q3654 q3656 qs60 q119 q3657 ⟨rfl, (mm_npk 3 rfl (by decide +kernel))⟩ ⟨⟨Nat.le_of_ble_eq_true rfl, Nat.le_of_ble_eq_true rfl⟩, Nat.le_of_ble_eq_true rfl, Nat.le_of_ble_eq_true rfl⟩ mC_X3 (tK0 hT) rfl (Nat.le_of_ble_eq_true rfl) dX3_addStone_80 (fun _ _ _ h => False.elim h) (fun v_80ttt S_80ttt p_80ttt => ?_)
        obtain rfl := p_80ttt
        refine G.mem (S' := tw m S (tws (rem (twf t 0 (nI 0)) fc ch) 1 (upd (upd (t.2 1) 2 (nI (ns + 1))) (76 + 5 * ns + 0) (nI p)))) (congrArg (tw m S) tws_tws) ?_
        refine G.eq (show _ = ([] : List Value) from rfl) ?_
        refine g_aload_n X 1 rfl rfl dX3_addStone_83 ?_
        refine g_iload_n X 0 rfl rfl dX3_addStone_84 ?_
        refine g_iconst X (nI 1) (by first | rfl | decide) dX3_addStone_85 ?_
        refine g_iload_n X 3 rfl rfl dX3_addStone_86 ?_
        refine g_callV (st := []) X (sp_X3_setsStone _ _ _ m S (tws (rem (twf t 0 (nI 0)) fc ch) 1 (upd (upd (t.2 1) 2 (nI (ns + 1))) (76 + 5 * ns + 0) (nI p))) hT ns 1 (by omega) y) q3654 q3656 qs60 q119 q3657 ⟨rfl, (mm_npk 3 rfl (by decide +kernel))⟩ ⟨⟨Nat.le_of_ble_eq_true rfl, Nat.le_of_ble_eq_true rfl⟩, Nat.le_of_ble_eq_true rfl, Nat.le_of_ble_eq_true rfl⟩ mC_X3 (tK0 hT) rfl (Nat.le_of_ble_eq_true rfl) dX3_addStone_87 (fun _ _ _ h => False.elim h) (fun v_87ttt S_87ttt p_87ttt => ?_)
        obtain rfl := p_87ttt
        refine G.mem (S' := tw m S (tws (rem (twf t 0 (nI 0)) fc ch) 1 (upd (upd (upd (t.2 1) 2 (nI (ns + 1))) (76 + 5 * ns + 0) (nI p)) (76 + 5 * ns + 1) y))) (congrArg (tw m S) tws_tws) ?_
        refine G.eq (show _ = ([] : List Value) from rfl) ?_
        refine g_aload_n X 1 rfl rfl dX3_addStone_90 ?_
        refine g_iload_n X 0 rfl rfl dX3_addStone_91 ?_
        refine g_iconst X (nI 4) (by first | rfl | decide) dX3_addStone_92 ?_
        refine g_aload_n X 1 rfl rfl dX3_addStone_93 ?_
        refine g_getR (v := some (m + 1)) X mC_X3 5 (by decide) q3511 (mm_same.rf rfl) rfl (tK0 hT) (tR1 hT) dX3_addStone_94 ?_
        refine g_iconst X (nI 0) (by first | rfl | decide) dX3_addStone_97 ?_
        refine g_iald (v := t.2 1 0) X (mm_ix.of rfl (by omega) (by omega)) (tK1 hT) ((tw_A (by decide)).trans (show (upd (upd (upd (t.2 1) 2 (nI (ns + 1))) (76 + 5 * ns + 0) (nI p)) (76 + 5 * ns + 1) y) 0 = t.2 1 0 from ((pk_un (by omega)).trans ((pk_un (by omega)).trans (pk_un (by omega)))))) dX3_addStone_98 ?_
        refine g_iload_n X 3 rfl rfl dX3_addStone_99 ?_
        refine g_iadd X dX3_addStone_100 ?_
        refine g_callV (st := []) X (sp_X3_setsStone _ _ _ m S (tws (rem (twf t 0 (nI 0)) fc ch) 1 (upd (upd (upd (t.2 1) 2 (nI (ns + 1))) (76 + 5 * ns + 0) (nI p)) (76 + 5 * ns + 1) y)) hT ns 4 (by omega) (t.2 1 0 + y)) q3654 q3656 qs60 q119 q3657 ⟨rfl, (mm_npk 3 rfl (by decide +kernel))⟩ ⟨⟨Nat.le_of_ble_eq_true rfl, Nat.le_of_ble_eq_true rfl⟩, Nat.le_of_ble_eq_true rfl, Nat.le_of_ble_eq_true rfl⟩ mC_X3 (tK0 hT) rfl (Nat.le_of_ble_eq_true rfl) dX3_addStone_101 (fun _ _ _ h => False.elim h) (fun v_101ttt S_101ttt p_101ttt => ?_)
        obtain rfl := p_101ttt
        refine G.mem (S' := tw m S (tws (rem (twf t 0 (nI 0)) fc ch) 1 (upd (upd (upd (upd (t.2 1) 2 (nI (ns + 1))) (76 + 5 * ns + 0) (nI p)) (76 + 5 * ns + 1) y) (76 + 5 * ns + 4) (t.2 1 0 + y)))) (congrArg (tw m S) tws_tws) ?_
        refine G.eq (show _ = ([] : List Value) from rfl) ?_
        refine g_iload_n X 0 rfl rfl dX3_addStone_104 ?_
        exact g_ireturn X Y hr rfl ⟨Nat.le_of_ble_eq_true rfl, Nat.le_of_ble_eq_true rfl⟩ dX3_addStone_105 (by unfold oAddStone; rw [if_pos ((ixb_nI (by omega)).mpr hp), if_pos h_26t, if_neg h_43tt, cN_nI (by omega)]; exact ⟨rfl, rfl⟩)
      · replace h_43tt := (nI_eq (by omega) (by omega)).mp h_43tt
        refine g_aload_n X 0 rfl rfl dX3_addStone_46 ?_
        refine g_iconst X (nI 3) (by first | rfl | decide) dX3_addStone_47 ?_
        refine g_iconst X (nI 1) (by first | rfl | decide) dX3_addStone_48 ?_
        refine g_bipush X (nI 8) (by first | rfl | decide) dX3_addStone_49 ?_
        refine g_callV (st := []) X (sp_X3_refuses _ _ _ m S (twf t 0 (nI 0)) hT (nI 3) (nI 1) (nI 8)) q3582 q3584 qs48 q119 q3585 ⟨rfl, (mm_npk 3 rfl (by decide +kernel))⟩ ⟨⟨Nat.le_of_ble_eq_true rfl, Nat.le_of_ble_eq_true rfl⟩, Nat.le_of_ble_eq_true rfl, Nat.le_of_ble_eq_true rfl⟩ mC_X3 (tK0 hT) rfl (Nat.le_of_ble_eq_true rfl) dX3_addStone_51 (fun _ _ _ h => False.elim h) (fun v_51ttf S_51ttf p_51ttf => ?_)
        obtain ⟨rfl, rfl⟩ := p_51ttf
        refine G.eq (show _ = ([.int (nI 0)] : List Value) from rfl) ?_
        exact g_ireturn X Y hr rfl ⟨Nat.le_of_ble_eq_true rfl, Nat.le_of_ble_eq_true rfl⟩ dX3_addStone_54 (by unfold oAddStone; rw [if_pos ((ixb_nI (by omega)).mpr hp), if_pos h_26t, if_pos h_43tt]; exact ⟨rfl, rfl⟩)
    · replace h_26t := bI_0.mp h_26t
      refine g_aload_n X 0 rfl rfl dX3_addStone_29 ?_
      refine g_iconst X (nI 2) (by first | rfl | decide) dX3_addStone_30 ?_
      refine g_callV (st := []) X (sp_X3_fails _ _ _ m S (twf t 0 (nI 0)) hT (nI 2)) q3578 q3580 qs47 q119 q3581 ⟨rfl, (mm_npk 1 rfl (by decide +kernel))⟩ ⟨⟨Nat.le_of_ble_eq_true rfl, Nat.le_of_ble_eq_true rfl⟩, Nat.le_of_ble_eq_true rfl, Nat.le_of_ble_eq_true rfl⟩ mC_X3 (tK0 hT) rfl (Nat.le_of_ble_eq_true rfl) dX3_addStone_31 (fun _ _ _ h => False.elim h) (fun v_31tf S_31tf p_31tf => ?_)
      obtain ⟨rfl, rfl⟩ := p_31tf
      refine G.eq (show _ = ([.int (nI 0)] : List Value) from rfl) ?_
      exact g_ireturn X Y hr rfl ⟨Nat.le_of_ble_eq_true rfl, Nat.le_of_ble_eq_true rfl⟩ dX3_addStone_34 (by unfold oAddStone; rw [if_pos ((ixb_nI (by omega)).mpr hp), if_neg h_26t]; exact ⟨rfl, rfl⟩)
  · replace h_10 := bI_0.mp h_10
    refine g_aload_n X 0 rfl rfl dX3_addStone_13 ?_
    refine g_iconst X (nI 1) (by first | rfl | decide) dX3_addStone_14 ?_
    refine g_callV (st := []) X (sp_X3_fails _ _ _ m S (twf t 0 (nI 0)) hT (nI 1)) q3578 q3580 qs47 q119 q3581 ⟨rfl, (mm_npk 1 rfl (by decide +kernel))⟩ ⟨⟨Nat.le_of_ble_eq_true rfl, Nat.le_of_ble_eq_true rfl⟩, Nat.le_of_ble_eq_true rfl, Nat.le_of_ble_eq_true rfl⟩ mC_X3 (tK0 hT) rfl (Nat.le_of_ble_eq_true rfl) dX3_addStone_15 (fun _ _ _ h => False.elim h) (fun v_15f S_15f p_15f => ?_)
    obtain ⟨rfl, rfl⟩ := p_15f
    refine G.eq (show _ = ([.int (nI 0)] : List Value) from rfl) ?_
    exact g_ireturn X Y hr rfl ⟨Nat.le_of_ble_eq_true rfl, Nat.le_of_ble_eq_true rfl⟩ dX3_addStone_18 (by unfold oAddStone; rw [if_neg h_10]; exact ⟨rfl, rfl⟩)
set_option maxHeartbeats 4000000 in
set_option maxRecDepth 100000 in
theorem sp_X3_stone (l : Launch) (D : Dg) (B : Nat) (m : Nat) (S : Mm) (t : Tw) (hT : twK B S m) (ns : Nat) (hns : t.2 1 2 = nI ns) (hns8 : ns ≤ 8) (x y : Int32) : Sp eI l D B yX3_stone (ws_ yX3_stone cX3_stone 3 (some .int)) (rmL 3 0 0) [.ref m, .int x, .int y] (tw m S t) (fun v S' => v = (oStone t ns x y).1 ∧ S' = tw m S ((oStone t ns x y).2)) (fun _ _ _ => False) := by
  refine Sp.of cX3_stone 3 (some .int) [(0, .ref m), (1, .int x), (2, .int y)] rfl (Nat.le_of_ble_eq_true rfl) rfl fun g X Y hr hnm hgl hgD hgB hex => ?_
  subst hgl hgD hgB
  refine g_aload_n X 0 rfl rfl dX3_stone_0 ?_
  refine g_iconst X (nI 0) (by first | rfl | decide) dX3_stone_1 ?_
  refine g_putV (S' := tw m S (twf t 0 (nI 0))) X mC_X3 0 (by decide) q3506 (mm_same.rf rfl) rfl (tK0 hT) (fun h => absurd h (by decide)) rfl rfl (.inl ⟨nI 0, rfl, rfl, tw_sI.symm⟩) dX3_stone_2 ?_
  refine g_aload_n X 0 rfl rfl dX3_stone_5 ?_
  refine g_iload_n X 1 rfl rfl dX3_stone_6 ?_
  refine g_callV (st := []) X (sp_X3_isStone _ _ _ m S (twf t 0 (nI 0)) hT x ns hns (by omega)) q3662 q3664 qs61 q119 q3665 ⟨rfl, (mm_npk 1 rfl (by decide +kernel))⟩ ⟨⟨Nat.le_of_ble_eq_true rfl, Nat.le_of_ble_eq_true rfl⟩, Nat.le_of_ble_eq_true rfl, Nat.le_of_ble_eq_true rfl⟩ mC_X3 (tK0 hT) rfl (Nat.le_of_ble_eq_true rfl) dX3_stone_7 (fun _ _ _ h => False.elim h) (fun v_7 S_7 p_7 => ?_)
  obtain ⟨rfl, rfl⟩ := p_7
  refine G.eq (show _ = ([.int (bI (ixb x ns))] : List Value) from rfl) ?_
  refine g_if_ne X dX3_stone_10 (tgt := 19) (by decide) (fun h_10 => ?_) (fun h_10 => ?_)
  · replace h_10 := bI_1.mp h_10
    obtain ⟨p, hp, rfl⟩ := ixb_of h_10
    refine g_iload_n X 2 rfl rfl dX3_stone_19 ?_
    refine g_iconst X (nI 4) (by first | rfl | decide) dX3_stone_20 ?_
    refine g_icmp_ne X dX3_stone_21 (tgt := 38) (by decide) (fun h_21t => ?_) (fun h_21t => ?_)
    · refine g_iload_n X 2 rfl rfl dX3_stone_38 ?_
      refine g_iconst X (nI 0) (by first | rfl | decide) dX3_stone_39 ?_
      refine g_iconst X (nI 3) (by first | rfl | decide) dX3_stone_40 ?_
      refine g_callS (st := []) X (sp_X3_isBetween _ _ _ (tw m S (twf t 0 (nI 0))) y (nI 0) (nI 3)) q3575 q3576 q119 q3577 (mm_npk 3 rfl (by decide +kernel)) ⟨⟨Nat.le_of_ble_eq_true rfl, Nat.le_of_ble_eq_true rfl⟩, Nat.le_of_ble_eq_true rfl, Nat.le_of_ble_eq_true rfl⟩ rfl (Nat.le_of_ble_eq_true rfl) dX3_stone_41 (fun _ _ _ h => False.elim h) (fun v_41tt S_41tt p_41tt => ?_)
      obtain ⟨p_41tt, rfl⟩ := p_41tt
      rw [bI_c (btw3)] at p_41tt
      subst p_41tt
      refine G.eq (show _ = ([.int (bI (ixb y 4))] : List Value) from rfl) ?_
      refine g_if_eq X dX3_stone_44 (tgt := 56) (by decide) (fun h_44tt => ?_) (fun h_44tt => ?_)
      · replace h_44tt := bI_0.mp h_44tt
        refine g_aload_n X 0 rfl rfl dX3_stone_56 ?_
        refine g_iconst X (nI 2) (by first | rfl | decide) dX3_stone_57 ?_
        refine g_callV (st := []) X (sp_X3_fails _ _ _ m S (twf t 0 (nI 0)) hT (nI 2)) q3578 q3580 qs47 q119 q3581 ⟨rfl, (mm_npk 1 rfl (by decide +kernel))⟩ ⟨⟨Nat.le_of_ble_eq_true rfl, Nat.le_of_ble_eq_true rfl⟩, Nat.le_of_ble_eq_true rfl, Nat.le_of_ble_eq_true rfl⟩ mC_X3 (tK0 hT) rfl (Nat.le_of_ble_eq_true rfl) dX3_stone_58 (fun _ _ _ h => False.elim h) (fun v_58ttt S_58ttt p_58ttt => ?_)
        obtain ⟨rfl, rfl⟩ := p_58ttt
        refine G.eq (show _ = ([.int (nI 0)] : List Value) from rfl) ?_
        exact g_ireturn X Y hr rfl ⟨Nat.le_of_ble_eq_true rfl, Nat.le_of_ble_eq_true rfl⟩ dX3_stone_61 (by unfold oStone; rw [if_pos ((ixb_nI (by omega)).mpr hp), if_neg h_21t, if_neg h_44tt]; exact ⟨rfl, rfl⟩)
      · replace h_44tt := bI_1.mp h_44tt
        obtain ⟨k, hk, rfl⟩ := ixb_of h_44tt
        refine g_aload_n X 0 rfl rfl dX3_stone_47 ?_
        refine g_iload_n X 1 rfl rfl dX3_stone_48 ?_
        refine g_iload_n X 2 rfl rfl dX3_stone_49 ?_
        refine g_callV (st := []) X (sp_X3_ofStone _ _ _ m S (twf t 0 (nI 0)) hT p k (by omega)) q3614 q3616 qs55 q119 q3617 ⟨rfl, (mm_npk 2 rfl (by decide +kernel))⟩ ⟨⟨Nat.le_of_ble_eq_true rfl, Nat.le_of_ble_eq_true rfl⟩, Nat.le_of_ble_eq_true rfl, Nat.le_of_ble_eq_true rfl⟩ mC_X3 (tK0 hT) rfl (Nat.le_of_ble_eq_true rfl) dX3_stone_50 (fun _ _ _ h => False.elim h) (fun v_50ttf S_50ttf p_50ttf => ?_)
        obtain ⟨rfl, rfl⟩ := p_50ttf
        refine G.eq (show _ = ([.int (t.2 1 (76 + 5 * p + k))] : List Value) from rfl) ?_
        refine g_goto X dX3_stone_53 (tgt := 61) (by decide) ?_
        exact g_ireturn X Y hr rfl ⟨Nat.le_of_ble_eq_true rfl, Nat.le_of_ble_eq_true rfl⟩ dX3_stone_61 (by unfold oStone; rw [if_pos ((ixb_nI (by omega)).mpr hp), if_neg h_21t, if_pos ((ixb_nI (by omega)).mpr hk), cN_nI (n := p) (by omega), cN_nI (n := k) (by omega)]; exact ⟨rfl, rfl⟩)
    · refine g_aload_n X 0 rfl rfl dX3_stone_24 ?_
      refine g_iload_n X 1 rfl rfl dX3_stone_25 ?_
      refine g_iconst X (nI 4) (by first | rfl | decide) dX3_stone_26 ?_
      refine g_callV (st := []) X (sp_X3_ofStone _ _ _ m S (twf t 0 (nI 0)) hT p 4 (by omega)) q3614 q3616 qs55 q119 q3617 ⟨rfl, (mm_npk 2 rfl (by decide +kernel))⟩ ⟨⟨Nat.le_of_ble_eq_true rfl, Nat.le_of_ble_eq_true rfl⟩, Nat.le_of_ble_eq_true rfl, Nat.le_of_ble_eq_true rfl⟩ mC_X3 (tK0 hT) rfl (Nat.le_of_ble_eq_true rfl) dX3_stone_27 (fun _ _ _ h => False.elim h) (fun v_27tf S_27tf p_27tf => ?_)
      obtain ⟨rfl, rfl⟩ := p_27tf
      refine G.eq (show _ = ([.int (t.2 1 (76 + 5 * p + 4))] : List Value) from rfl) ?_
      refine g_aload_n X 0 rfl rfl dX3_stone_30 ?_
      refine g_getR (v := some (m + 1)) X mC_X3 5 (by decide) q3511 (mm_same.rf rfl) rfl (tK0 hT) (tR1 hT) dX3_stone_31 ?_
      refine g_iconst X (nI 0) (by first | rfl | decide) dX3_stone_34 ?_
      refine g_iald (v := t.2 1 0) X (mm_ix.of rfl (by omega) (by omega)) (tK1 hT) (tw_A (by decide)) dX3_stone_35 ?_
      refine g_isub X dX3_stone_36 ?_
      exact g_ireturn X Y hr rfl ⟨Nat.le_of_ble_eq_true rfl, Nat.le_of_ble_eq_true rfl⟩ dX3_stone_37 (by unfold oStone; rw [if_pos ((ixb_nI (by omega)).mpr hp), if_pos h_21t, cN_nI (by omega)]; exact ⟨rfl, rfl⟩)
  · replace h_10 := bI_0.mp h_10
    refine g_aload_n X 0 rfl rfl dX3_stone_13 ?_
    refine g_iconst X (nI 1) (by first | rfl | decide) dX3_stone_14 ?_
    refine g_callV (st := []) X (sp_X3_fails _ _ _ m S (twf t 0 (nI 0)) hT (nI 1)) q3578 q3580 qs47 q119 q3581 ⟨rfl, (mm_npk 1 rfl (by decide +kernel))⟩ ⟨⟨Nat.le_of_ble_eq_true rfl, Nat.le_of_ble_eq_true rfl⟩, Nat.le_of_ble_eq_true rfl, Nat.le_of_ble_eq_true rfl⟩ mC_X3 (tK0 hT) rfl (Nat.le_of_ble_eq_true rfl) dX3_stone_15 (fun _ _ _ h => False.elim h) (fun v_15f S_15f p_15f => ?_)
    obtain ⟨rfl, rfl⟩ := p_15f
    refine G.eq (show _ = ([.int (nI 0)] : List Value) from rfl) ?_
    exact g_ireturn X Y hr rfl ⟨Nat.le_of_ble_eq_true rfl, Nat.le_of_ble_eq_true rfl⟩ dX3_stone_18 (by unfold oStone; rw [if_neg h_10]; exact ⟨rfl, rfl⟩)
set_option maxHeartbeats 4000000 in
set_option maxRecDepth 100000 in
theorem sp_X3_nextStone (l : Launch) (D : Dg) (B : Nat) (m : Nat) (S : Mm) (t : Tw) (hT : twK B S m) (ns : Nat) (hns : t.2 1 2 = nI ns) (hns8 : ns ≤ 8) : Sp eI l D B yX3_nextStone (ws_ yX3_nextStone cX3_nextStone 3 (some .int)) (rmL 2 0 0) [.ref m] (tw m S t) (fun v S' => v = (oNextStone t ns).1 ∧ S' = tw m S ((oNextStone t ns).2)) (fun _ _ _ => False) := by
  refine Sp.of cX3_nextStone 3 (some .int) [(0, .ref m)] rfl (Nat.le_of_ble_eq_true rfl) rfl fun g X Y hr hnm hgl hgD hgB hex => ?_
  subst hgl hgD hgB
  refine g_aload_n X 0 rfl rfl dX3_nextStone_0 ?_
  refine g_iconst X (nI 0) (by first | rfl | decide) dX3_nextStone_1 ?_
  refine g_putV (S' := tw m S (twf t 0 (nI 0))) X mC_X3 0 (by decide) q3506 (mm_same.rf rfl) rfl (tK0 hT) (fun h => absurd h (by decide)) rfl rfl (.inl ⟨nI 0, rfl, rfl, tw_sI.symm⟩) dX3_nextStone_2 ?_
  refine g_aload_n X 0 rfl rfl dX3_nextStone_5 ?_
  refine g_getR (v := some (m + 1)) X mC_X3 5 (by decide) q3511 (mm_same.rf rfl) rfl (tK0 hT) (tR1 hT) dX3_nextStone_6 ?_
  refine g_iconst X (nI 2) (by first | rfl | decide) dX3_nextStone_9 ?_
  refine g_iald (v := nI ns) X (mm_ix.of rfl (by omega) (by omega)) (tK1 hT) ((tw_A (by decide)).trans (show t.2 1 2 = nI ns from hns)) dX3_nextStone_10 ?_
  refine g_if_ne X dX3_nextStone_11 (tgt := 20) (by decide) (fun h_11 => ?_) (fun h_11 => ?_)
  · replace h_11 := mt (nI_z (by omega)).mpr h_11
    refine g_iconst X (nI 0) (by first | rfl | decide) dX3_nextStone_20 ?_
    refine g_istore_n (L' := [(1, .int (nI 0)), (0, .ref m)]) X (by decide) rfl rfl dX3_nextStone_21 ?_
    refine g_iconst X (nI 1) (by first | rfl | decide) dX3_nextStone_22 ?_
    refine g_istore_n (L' := [(2, .int (nI 1)), (1, .int (nI 0)), (0, .ref m)]) X (by decide) rfl rfl dX3_nextStone_23 ?_
    have key_24t : ∀ (k9 q : Nat) (b : Nat), ns < q + k9 → q ≤ ns → sm (fun s => t.2 1 (76 + 5 * s + 4)) q = some b → G g 0 0 (tw m S (twf t 0 (nI 0))) 24 [(2, .int (nI q)), (1, .int (nI b)), (0, .ref m)] [] := by
      intro k9
      induction k9 with
      | zero => intro q _ a1 a2; omega
      | succ k9 ih_24 =>
        intro q b a1 a2 r1
        refine g_iload_n X 0 rfl rfl dX3_nextStone_24 ?_
        refine g_aload_n X 2 rfl rfl dX3_nextStone_25 ?_
        refine g_getR (v := some (m + 1)) X mC_X3 5 (by decide) q3511 (mm_same.rf rfl) rfl (tK0 hT) (tR1 hT) dX3_nextStone_26 ?_
        refine g_iconst X (nI 2) (by first | rfl | decide) dX3_nextStone_29 ?_
        refine g_iald (v := nI ns) X (mm_ix.of rfl (by omega) (by omega)) (tK1 hT) ((tw_A (by decide)).trans (show t.2 1 2 = nI ns from hns)) dX3_nextStone_30 ?_
        refine g_icmp_ge X dX3_nextStone_31 (tgt := 61) (by decide) (fun h_31tL => ?_) (fun h_31tL => ?_)
        · replace h_31tL := (nI_leI (by omega) (by omega)).mp h_31tL
          refine g_iload_n X 1 rfl rfl dX3_nextStone_61 ?_
          exact g_ireturn X Y hr rfl ⟨Nat.le_of_ble_eq_true rfl, Nat.le_of_ble_eq_true rfl⟩ dX3_nextStone_62 (by
              have e : q = ns := by omega
              subst e
              unfold oNextStone; rw [r1]; exact ⟨rfl, rfl⟩)
        · replace h_31tL := mt (nI_leI (by omega) (by omega)).mpr h_31tL
          refine g_aload_n X 2 rfl rfl dX3_nextStone_34 ?_
          refine g_iload_n X 0 rfl rfl dX3_nextStone_35 ?_
          refine g_iconst X (nI 4) (by first | rfl | decide) dX3_nextStone_36 ?_
          refine g_callV (st := []) X (sp_X3_ofStone _ _ _ m S (twf t 0 (nI 0)) hT q 4 (by omega)) q3614 q3616 qs55 q119 q3617 ⟨rfl, (mm_npk 2 rfl (by decide +kernel))⟩ ⟨⟨Nat.le_of_ble_eq_true rfl, Nat.le_of_ble_eq_true rfl⟩, Nat.le_of_ble_eq_true rfl, Nat.le_of_ble_eq_true rfl⟩ mC_X3 (tK0 hT) rfl (Nat.le_of_ble_eq_true rfl) dX3_nextStone_37 (fun _ _ _ h => False.elim h) (fun v_37tLf S_37tLf p_37tLf => ?_)
          obtain ⟨rfl, rfl⟩ := p_37tLf
          refine G.eq (show _ = ([.int (t.2 1 (76 + 5 * q + 4))] : List Value) from rfl) ?_
          refine g_aload_n X 2 rfl rfl dX3_nextStone_40 ?_
          refine g_iload_n X 1 rfl rfl dX3_nextStone_41 ?_
          refine g_iconst X (nI 4) (by first | rfl | decide) dX3_nextStone_42 ?_
          refine g_callV (st := [.int (t.2 1 (76 + 5 * q + 4))]) X (sp_X3_ofStone _ _ _ m S (twf t 0 (nI 0)) hT b 4 (by have := sm_lt r1; omega)) q3614 q3616 qs55 q119 q3617 ⟨rfl, (mm_npk 2 rfl (by decide +kernel))⟩ ⟨⟨Nat.le_of_ble_eq_true rfl, Nat.le_of_ble_eq_true rfl⟩, Nat.le_of_ble_eq_true rfl, Nat.le_of_ble_eq_true rfl⟩ mC_X3 (tK0 hT) rfl (Nat.le_of_ble_eq_true rfl) dX3_nextStone_43 (fun _ _ _ h => False.elim h) (fun v_43tLf S_43tLf p_43tLf => ?_)
          obtain ⟨rfl, rfl⟩ := p_43tLf
          refine G.eq (show _ = ([.int (t.2 1 (76 + 5 * b + 4)), .int (t.2 1 (76 + 5 * q + 4))] : List Value) from rfl) ?_
          refine g_icmp_ge X dX3_nextStone_46 (tgt := 53) (by decide) (fun h_46tLf => ?_) (fun h_46tLf => ?_)
          · refine g_iload_n X 1 rfl rfl dX3_nextStone_53 ?_
            refine g_istore_n (L' := [(1, .int (nI b)), (2, .int (nI q)), (0, .ref m)]) X (by decide) rfl rfl dX3_nextStone_54 ?_
            refine g_iinc (L' := [(2, .int (nI (q + 1))), (1, .int (nI b)), (0, .ref m)]) X 1 (nI (q + 1)) rfl (nI_1 _) (by decide) rfl dX3_nextStone_55 ?_
            refine g_goto X dX3_nextStone_58 (tgt := 24) (by decide) ?_
            exact ih_24 (q + 1) b (by omega) (by omega) (sm_f r1 (Int32.not_lt.mpr h_46tLf))
          · refine g_iload_n X 0 rfl rfl dX3_nextStone_49 ?_
            refine g_goto X dX3_nextStone_50 (tgt := 54) (by decide) ?_
            refine g_istore_n (L' := [(1, .int (nI q)), (2, .int (nI q)), (0, .ref m)]) X (by decide) rfl rfl dX3_nextStone_54 ?_
            refine g_iinc (L' := [(2, .int (nI (q + 1))), (1, .int (nI q)), (0, .ref m)]) X 1 (nI (q + 1)) rfl (nI_1 _) (by decide) rfl dX3_nextStone_55 ?_
            refine g_goto X dX3_nextStone_58 (tgt := 24) (by decide) ?_
            exact ih_24 (q + 1) q (by omega) (by omega) (sm_t r1 (Int32.not_le.mp h_46tLf))
    skip
    exact key_24t (ns + 1) 1 0 (by omega) (by omega) rfl
  · replace h_11 := (nI_z (by omega)).mp h_11
    refine g_aload_n X 0 rfl rfl dX3_nextStone_14 ?_
    refine g_iconst X (nI 1) (by first | rfl | decide) dX3_nextStone_15 ?_
    refine g_callV (st := []) X (sp_X3_fails _ _ _ m S (twf t 0 (nI 0)) hT (nI 1)) q3578 q3580 qs47 q119 q3581 ⟨rfl, (mm_npk 1 rfl (by decide +kernel))⟩ ⟨⟨Nat.le_of_ble_eq_true rfl, Nat.le_of_ble_eq_true rfl⟩, Nat.le_of_ble_eq_true rfl, Nat.le_of_ble_eq_true rfl⟩ mC_X3 (tK0 hT) rfl (Nat.le_of_ble_eq_true rfl) dX3_nextStone_16 (fun _ _ _ h => False.elim h) (fun v_16f S_16f p_16f => ?_)
    obtain ⟨rfl, rfl⟩ := p_16f
    refine G.eq (show _ = ([.int (nI 0)] : List Value) from rfl) ?_
    exact g_ireturn X Y hr rfl ⟨Nat.le_of_ble_eq_true rfl, Nat.le_of_ble_eq_true rfl⟩ dX3_nextStone_19 (by
        subst h_11
        exact ⟨rfl, rfl⟩)
