/-! SHEETS 4: takenOf -/
set_option maxRecDepth 100000
def zLn (p : Int32) : Nat := if p = 0 then 0 else if p = 1 then 1 else 2
def zTk : Nat → String
  | 0 => "java/lang/NullPointerException"
  | 1 => "java/lang/ClassCastException"
  | _ => "java/lang/ArrayIndexOutOfBoundsException"
theorem z_nc {s : State} (hY : zY s) {i j : Nat} (hi : i ≤ 2) (hj : j ≤ 2) (h : ¬ i = j) : va_Nc (zcn i) (zcn j) s := by
  have h1 : i = 0 ∨ i = 1 ∨ i = 2 := by omega
  have h2 : j = 0 ∨ j = 1 ∨ j = 2 := by omega
  rcases h1 with rfl | rfl | rfl <;> rcases h2 with rfl | rfl | rfl
  · exact absurd rfl h
  · exact hY.2.2 ("[B", "[S") (by decide)
  · exact hY.2.2 ("[B", "[I") (by decide)
  · exact hY.2.2 ("[S", "[B") (by decide)
  · exact absurd rfl h
  · exact hY.2.2 ("[S", "[I") (by decide)
  · exact hY.2.2 ("[I", "[B") (by decide)
  · exact hY.2.2 ("[I", "[S") (by decide)
  · exact absurd rfl h
def wpX0_takenOf (sr : Nat → Option Nat) (L : List Nat) (pk pn : Nat → Nat) (pc : Nat → Nat → Int32) (p1 p2 p3 : Int32) (Q : Int32 → Prop) (QT : Nat → Prop) : Prop :=
  ∃ j : Nat, j < 4 ∧ p1 = nI j ∧ (sr j = none → QT 0) ∧ ∀ a, sr j = some a → a ∈ L ∧ pk a ≤ 2 ∧ pn a < 2 ^ 31 ∧ (¬ pk a = zLn p2 → QT 1) ∧ (pk a = zLn p2 → (vp_in p3 (pn a) → Q (pc a p3.toNatClampNeg)) ∧ (¬ vp_in p3 (pn a) → QT 2))
set_option maxHeartbeats 4000000 in
theorem metX0_takenOf (l : Launch) (htr : l.stackTraces = false) (D : va_G) (kk : Nat → ClassId) (ad : Nat → Nat) (sz : Nat) (f : Nat → Int32) (g : Nat → Int64) (sr : Nat → Option Nat) (L : List Nat) (pk pn : Nat → Nat) (pc : Nat → Nat → Int32) (p1 p2 p3 : Int32) (Q : Int32 → Prop) (QT : Nat → Prop) (h : wpX0_takenOf sr L pk pn pc p1 p2 p3 Q QT) :
    MetX l yX0_takenOf (Cond.code yX0_takenOf cX0_takenOf 5 (some .int) :: lw_all) { frames := 8, cells := 3, slots := 222, locals := 10300 } (va_Pc ([.ref (ad 0), .int p1, .int p2, .int p3] : List Value) (zPX D kk (zSX kk ad f g sr ++ va_pl L (zPf kk pk pn pc)) sz))
      (zQX (fun r : Int32 => some (.int r)) (fun (r : Int32) (_ : Unit) => Q r) (zB D (va_A (zSX kk ad f g sr ++ va_pl L (zPf kk pk pn pc)) sz) (fun _ : Unit => (zSX kk ad f g sr ++ va_pl L (zPf kk pk pn pc)))) QT (zBT D (va_A (zSX kk ad f g sr ++ va_pl L (zPf kk pk pn pc)) sz) (fun _ _ => (zSX kk ad f g sr ++ va_pl L (zPf kk pk pn pc))) zTk) (va_A (zSX kk ad f g sr ++ va_pl L (zPf kk pk pn pc)) sz)) 3 222 (va_A (zSX kk ad f g sr ++ va_pl L (zPf kk pk pn pc)) sz) := by
  refine zMetP (Qc := fun A => zQX (fun r : Int32 => some (.int r)) (fun (r : Int32) (_ : Unit) => Q r) (zB D A (fun _ : Unit => (zSX kk ad f g sr ++ va_pl L (zPf kk pk pn pc)))) QT (zBT D A (fun _ _ => (zSX kk ad f g sr ++ va_pl L (zPf kk pk pn pc))) zTk) A) htr (by decide) (Or.inl ⟨rfl, rfl⟩) (Nat.le_of_ble_eq_true rfl) ?_
  intro p e s m below meth c A X hh htab had hP hD hS ls hl
  obtain ⟨hx, hb, hr, hml, hown, hts, hlk, hnm, hK, hN, hA⟩ := X
  have hown : s.vm.findClass "LoseLeague" = some m.cls := hown
  have hl : lv_has ls 5 [(0, .ref (ad 0)), (1, .int p1), (2, .int p2), (3, .int p3)] := hl
  have hout : ∀ (pcc : Nat), ∀ y ∈ c.exceptionTable.toList, covers y pcc = false := by
    intro pcc y hy
    rw [List.map_eq_nil_iff.mp htab] at hy
    cases hy
  unfold wpX0_takenOf at h
  obtain ⟨j, hj, rfl, hnone, hsome⟩ := h
  have fin : ∀ (v : Int32) (H : Heap) (locs : List Loc) (ls : Array Slot), Q v → va_P D vwCl (zSX kk ad f g sr ++ va_pl L (zPf kk pk pn pc)) H → va_D A (zSX kk ad f g sr ++ va_pl L (zPf kk pk pn pc)) → va_S A s.heap H locs →
      W p l e { frames := 8, cells := 3, slots := 222, locals := 10300 } s m ([.ref (ad 0), .int (nI j), .int p2, .int p3] : List Value).toArray below meth c H locs 0 0 (MT below (zQX (fun r : Int32 => some (.int r)) (fun (r : Int32) (_ : Unit) => Q r) (zB D A (fun _ : Unit => (zSX kk ad f g sr ++ va_pl L (zPf kk pk pn pc)))) QT (zBT D A (fun _ _ => (zSX kk ad f g sr ++ va_pl L (zPf kk pk pn pc))) zTk) A) ([.ref (ad 0), .int (nI j), .int p2, .int p3] : List Value).toArray s 3 222 A) (F0 m 47 ls [.int v]) := by
    intro v H locs ls hq hP hD hS
    refine W.widen (k := 3) (n := 222) (Nat.le_of_ble_eq_true rfl) (Nat.le_of_ble_eq_true rfl) ?_
    refine W.mono (MQ_MT (Qc := va_Qi (fun (r : Int32) (_ : Unit) => Q r) (zB D A (fun _ : Unit => (zSX kk ad f g sr ++ va_pl L (zPf kk pk pn pc)))) A) fun o t hq => ?_) ?_
    · obtain ⟨⟨r, u, h1, h2, h3⟩, h4⟩ := hq
      exact ⟨Or.inl ⟨r, u, h1, h2, h3⟩, h4⟩
    · exact W.zret (v := v) hx hb hr rfl (fun t ht hW => ⟨⟨v, (), rfl, hq, by rw [ht]; exact hP, hD⟩, hS.F ht⟩) hS.2.2 dX0_takenOf_47
  have thr : ∀ (k : Nat) (H1 : Heap) (x : Nat) (locs : List Loc) (cl sl pcc : Nat) (ls : Array Slot) (st : List Value), cl ≤ 3 → sl ≤ 222 → QT k → va_P D vwCl (zSX kk ad f g sr ++ va_pl L (zPf kk pk pn pc)) H1 → va_D A (zSX kk ad f g sr ++ va_pl L (zPf kk pk pn pc)) → va_S A s.heap H1 locs → (∃ cell : Cell, H1[x]? = some cell ∧ cell.vm.isStatics = false ∧ s.vm.findClass (zTk k) = some cell.cls) →
      WT p l e { frames := 8, cells := 3, slots := 222, locals := 10300 } s m ([.ref (ad 0), .int (nI j), .int p2, .int p3] : List Value).toArray below meth c H1 locs cl sl (MT below (zQX (fun r : Int32 => some (.int r)) (fun (r : Int32) (_ : Unit) => Q r) (zB D A (fun _ : Unit => (zSX kk ad f g sr ++ va_pl L (zPf kk pk pn pc)))) QT (zBT D A (fun _ _ => (zSX kk ad f g sr ++ va_pl L (zPf kk pk pn pc))) zTk) A) ([.ref (ad 0), .int (nI j), .int p2, .int p3] : List Value).toArray s 3 222 A) (F0 m pcc ls st) x := by
    intro k H1 x locs cl sl pcc ls st h1 h2 hq hP hD hS hc
    obtain ⟨cell, c1, c2, c3⟩ := hc
    refine WT.widen (k := 3) (n := 222) h1 h2 ?_
    exact z_leave hlk (hout pcc) (fun t ht hW => ⟨Or.inr ⟨x, k, rfl, hq, by rw [ht]; exact hP, hD, cell, by rw [ht]; exact c1, c2, by rw [hW.alike.findClass]; exact c3⟩, hS.F ht⟩) hS.2.2
  obtain ⟨hw, hw2, hin⟩ := z_sx (kk := kk) (ad := ad) (f := f) (g := g) (sr := sr) (pl := va_pl L (zPf kk pk pn pc)) hj
  refine lv_aload_n hx hb dX0_takenOf_0 rfl (lv_at hl 0 rfl) ?_
  refine va_get (D := D) (ci := 0) (v := .ref (ad 25)) (C := RX0) (T := TX0) (N := 25) hx hb hts in_X0 hown hK hP 0 rfl rfl 23 (Nat.le_of_ble_eq_true rfl) (hts _ q196) (fun _ h9 => h9) rfl dX0_takenOf_1 ?_
  refine lv_iload_n hx hb dX0_takenOf_4 rfl (lv_at hl 1 rfl) ?_
  refine va_aldq hx hb hK hP 1 6 rfl rfl hin dX0_takenOf_5 ?_
  rw [hw2]
  refine va_getN (D := D) (ci := 6) (v := va_rf (sr j)) (C := RX6) (T := TX6) (N := 1) hx hb hts in_X6 hown hK hP (2 + j) hw rfl 0 (Nat.le_of_ble_eq_true rfl) (zN_f hN 7 rfl rfl) (fun _ h9 => h9) rfl dX0_takenOf_6 ?_
  cases ho : sr j with
  | none =>
    have hq := hnone ho
    show W _ _ _ _ _ _ _ _ _ _ _ _ _ _ _ (F0 m (6 + 3) ls [.null])
    refine lv_astoreN (lv' := [(4, .null), (0, .ref (ad 0)), (1, .int (nI j)), (2, .int p2), (3, .int p3)]) hx hb dX0_takenOf_9 hl (by decide) rfl (fun ls hl => ?_)
    refine lv_iload_n hx hb dX0_takenOf_11 rfl (lv_at hl 3 rfl) ?_
    refine lv_if_ne (tgt := 25) hx hb dX0_takenOf_12 (by decide) (fun d1 => ?_) (fun d1 => ?_)
    · refine lv_iload_n hx hb dX0_takenOf_25 rfl (lv_at hl 3 rfl) ?_
      refine lv_iconst (v := (1 : Int32)) hx hb dX0_takenOf_26 (by decide) ?_
      refine lv_icmp_ne (tgt := 40) hx hb dX0_takenOf_27 (by decide) (fun d2 => ?_) (fun d2 => ?_)
      · have hz : zLn p2 = 2 := by unfold zLn; rw [if_neg d1, if_neg d2]
        refine lv_aloadN hx hb dX0_takenOf_40 (lv_at hl 0 rfl) ?_
        refine lv_castN hx hb dX0_takenOf_42 ?_
        refine lv_iload_n hx hb dX0_takenOf_45 rfl (lv_at hl 4 rfl) ?_
        exact z_null (rest := []) hx hb hh (hl.1.trans hml.symm) (Nat.le_of_ble_eq_true rfl) (Nat.le_of_ble_eq_true rfl) (Nat.le_of_ble_eq_true rfl) (Nat.le_of_ble_eq_true rfl) hP hS (Or.inr (Or.inr (Or.inl ⟨rfl, _, rfl⟩))) dX0_takenOf_46 (fun H1 x hP hS hc => thr 0 H1 x _ _ _ _ _ _ (Nat.le_of_ble_eq_true rfl) (Nat.le_of_ble_eq_true rfl) hq hP hD hS hc)
      · have hz : zLn p2 = 1 := by unfold zLn; rw [if_neg d1, if_pos d2]
        refine lv_aloadN hx hb dX0_takenOf_30 (lv_at hl 0 rfl) ?_
        refine lv_castN hx hb dX0_takenOf_32 ?_
        refine lv_iload_n hx hb dX0_takenOf_35 rfl (lv_at hl 4 rfl) ?_
        exact z_null (rest := []) hx hb hh (hl.1.trans hml.symm) (Nat.le_of_ble_eq_true rfl) (Nat.le_of_ble_eq_true rfl) (Nat.le_of_ble_eq_true rfl) (Nat.le_of_ble_eq_true rfl) hP hS (Or.inr (Or.inl ⟨rfl, _, rfl⟩)) dX0_takenOf_36 (fun H1 x hP hS hc => thr 0 H1 x _ _ _ _ _ _ (Nat.le_of_ble_eq_true rfl) (Nat.le_of_ble_eq_true rfl) hq hP hD hS hc)
    · have hz : zLn p2 = 0 := by unfold zLn; rw [if_pos d1]
      refine lv_aloadN hx hb dX0_takenOf_15 (lv_at hl 0 rfl) ?_
      refine lv_castN hx hb dX0_takenOf_17 ?_
      refine lv_iload_n hx hb dX0_takenOf_20 rfl (lv_at hl 4 rfl) ?_
      exact z_null (rest := []) hx hb hh (hl.1.trans hml.symm) (Nat.le_of_ble_eq_true rfl) (Nat.le_of_ble_eq_true rfl) (Nat.le_of_ble_eq_true rfl) (Nat.le_of_ble_eq_true rfl) hP hS (Or.inl ⟨rfl, _, rfl⟩) dX0_takenOf_21 (fun H1 x hP hS hc => thr 0 H1 x _ _ _ _ _ _ (Nat.le_of_ble_eq_true rfl) (Nat.le_of_ble_eq_true rfl) hq hP hD hS hc)
  | some a =>
    obtain ⟨haL, hk2, hlen, hbad, hok⟩ := hsome a ho
    show W _ _ _ _ _ _ _ _ _ _ _ _ _ _ _ (F0 m (6 + 3) ls [.ref a])
    refine lv_astore (lv' := [(4, .ref a), (0, .ref (ad 0)), (1, .int (nI j)), (2, .int p2), (3, .int p3)]) hx hb dX0_takenOf_9 hl (by decide) rfl (fun ls hl => ?_)
    refine lv_iload_n hx hb dX0_takenOf_11 rfl (lv_at hl 3 rfl) ?_
    refine lv_if_ne (tgt := 25) hx hb dX0_takenOf_12 (by decide) (fun d1 => ?_) (fun d1 => ?_)
    · refine lv_iload_n hx hb dX0_takenOf_25 rfl (lv_at hl 3 rfl) ?_
      refine lv_iconst (v := (1 : Int32)) hx hb dX0_takenOf_26 (by decide) ?_
      refine lv_icmp_ne (tgt := 40) hx hb dX0_takenOf_27 (by decide) (fun d2 => ?_) (fun d2 => ?_)
      · have hz : zLn p2 = 2 := by unfold zLn; rw [if_neg d1, if_neg d2]
        refine lv_aload hx hb dX0_takenOf_40 (lv_at hl 0 rfl) ?_
        by_cases hk : pk a = 2
        · obtain ⟨⟨q0, hq0⟩, hcell⟩ := z_pool (s := s) hK hP haL hk
          refine z_castT (nm := zcn 2) hx hb hown (hts _ q895) hcell dX0_takenOf_42 ?_
          refine lv_iload_n hx hb dX0_takenOf_45 rfl (lv_at hl 4 rfl) ?_
          by_cases hin2 : vp_in p3 (pn a)
          · refine va_iald hx hb hK hP q0 1 hq0 rfl hin2 dX0_takenOf_46 ?_
            exact fin _ _ _ _ ((hok (hk.trans hz.symm)).1 hin2) hP hD hS
          · exact z_out (rest := []) (ty := .int) (t0 := 1) hx hb hh (hl.1.trans hml.symm) (Nat.le_of_ble_eq_true rfl) (Nat.le_of_ble_eq_true rfl) (Nat.le_of_ble_eq_true rfl) (Nat.le_of_ble_eq_true rfl) hK hP hS hq0 rfl hlen hin2 (Or.inr (Or.inr (Or.inl ⟨rfl, rfl⟩))) dX0_takenOf_46 (fun H1 x hP hS hc => thr 2 H1 x _ _ _ _ _ _ (Nat.le_of_ble_eq_true rfl) (Nat.le_of_ble_eq_true rfl) ((hok (hk.trans hz.symm)).2 hin2) hP hD hS hc)
        · obtain ⟨-, hcell⟩ := z_pool (s := s) hK hP haL rfl
          exact z_castNo (i := pk a) (j := 2) (rest := []) hx hb hh hown (hts _ q895) hK (z_nc hh.2.2.2.1 hk2 (Nat.le_of_ble_eq_true rfl) hk) hcell (hl.1.trans hml.symm) (Nat.le_of_ble_eq_true rfl) (Nat.le_of_ble_eq_true rfl) (Nat.le_of_ble_eq_true rfl) (Nat.le_of_ble_eq_true rfl) hP hS dX0_takenOf_42 (fun H1 x hP hS hc => thr 1 H1 x _ _ _ _ _ _ (Nat.le_of_ble_eq_true rfl) (Nat.le_of_ble_eq_true rfl) (hbad (by rw [hz]; exact hk)) hP hD hS hc)
      · have hz : zLn p2 = 1 := by unfold zLn; rw [if_neg d1, if_pos d2]
        refine lv_aload hx hb dX0_takenOf_30 (lv_at hl 0 rfl) ?_
        by_cases hk : pk a = 1
        · obtain ⟨⟨q0, hq0⟩, hcell⟩ := z_pool (s := s) hK hP haL hk
          refine z_castT (nm := zcn 1) hx hb hown (hts _ q894) hcell dX0_takenOf_32 ?_
          refine lv_iload_n hx hb dX0_takenOf_35 rfl (lv_at hl 4 rfl) ?_
          by_cases hin2 : vp_in p3 (pn a)
          · refine va_sald hx hb hK hP q0 3 hq0 rfl hin2 dX0_takenOf_36 ?_
            refine lv_goto (tgt := 47) hx hb dX0_takenOf_37 (by decide) ?_
            exact fin _ _ _ _ ((hok (hk.trans hz.symm)).1 hin2) hP hD hS
          · exact z_out (rest := []) (ty := .short) (t0 := 3) hx hb hh (hl.1.trans hml.symm) (Nat.le_of_ble_eq_true rfl) (Nat.le_of_ble_eq_true rfl) (Nat.le_of_ble_eq_true rfl) (Nat.le_of_ble_eq_true rfl) hK hP hS hq0 rfl hlen hin2 (Or.inr (Or.inl ⟨rfl, rfl⟩)) dX0_takenOf_36 (fun H1 x hP hS hc => thr 2 H1 x _ _ _ _ _ _ (Nat.le_of_ble_eq_true rfl) (Nat.le_of_ble_eq_true rfl) ((hok (hk.trans hz.symm)).2 hin2) hP hD hS hc)
        · obtain ⟨-, hcell⟩ := z_pool (s := s) hK hP haL rfl
          exact z_castNo (i := pk a) (j := 1) (rest := []) hx hb hh hown (hts _ q894) hK (z_nc hh.2.2.2.1 hk2 (Nat.le_of_ble_eq_true rfl) hk) hcell (hl.1.trans hml.symm) (Nat.le_of_ble_eq_true rfl) (Nat.le_of_ble_eq_true rfl) (Nat.le_of_ble_eq_true rfl) (Nat.le_of_ble_eq_true rfl) hP hS dX0_takenOf_32 (fun H1 x hP hS hc => thr 1 H1 x _ _ _ _ _ _ (Nat.le_of_ble_eq_true rfl) (Nat.le_of_ble_eq_true rfl) (hbad (by rw [hz]; exact hk)) hP hD hS hc)
    · have hz : zLn p2 = 0 := by unfold zLn; rw [if_pos d1]
      refine lv_aload hx hb dX0_takenOf_15 (lv_at hl 0 rfl) ?_
      by_cases hk : pk a = 0
      · obtain ⟨⟨q0, hq0⟩, hcell⟩ := z_pool (s := s) hK hP haL hk
        refine z_castT (nm := zcn 0) hx hb hown (hts _ q893) hcell dX0_takenOf_17 ?_
        refine lv_iload_n hx hb dX0_takenOf_20 rfl (lv_at hl 4 rfl) ?_
        by_cases hin2 : vp_in p3 (pn a)
        · refine va_bald hx hb hK hP q0 0 hq0 rfl hin2 dX0_takenOf_21 ?_
          refine lv_goto (tgt := 47) hx hb dX0_takenOf_22 (by decide) ?_
          exact fin _ _ _ _ ((hok (hk.trans hz.symm)).1 hin2) hP hD hS
        · exact z_out (rest := []) (ty := .byte) (t0 := 0) hx hb hh (hl.1.trans hml.symm) (Nat.le_of_ble_eq_true rfl) (Nat.le_of_ble_eq_true rfl) (Nat.le_of_ble_eq_true rfl) (Nat.le_of_ble_eq_true rfl) hK hP hS hq0 rfl hlen hin2 (Or.inl ⟨rfl, rfl⟩) dX0_takenOf_21 (fun H1 x hP hS hc => thr 2 H1 x _ _ _ _ _ _ (Nat.le_of_ble_eq_true rfl) (Nat.le_of_ble_eq_true rfl) ((hok (hk.trans hz.symm)).2 hin2) hP hD hS hc)
      · obtain ⟨-, hcell⟩ := z_pool (s := s) hK hP haL rfl
        exact z_castNo (i := pk a) (j := 0) (rest := []) hx hb hh hown (hts _ q893) hK (z_nc hh.2.2.2.1 hk2 (Nat.le_of_ble_eq_true rfl) hk) hcell (hl.1.trans hml.symm) (Nat.le_of_ble_eq_true rfl) (Nat.le_of_ble_eq_true rfl) (Nat.le_of_ble_eq_true rfl) (Nat.le_of_ble_eq_true rfl) hP hS dX0_takenOf_17 (fun H1 x hP hS hc => thr 1 H1 x _ _ _ _ _ _ (Nat.le_of_ble_eq_true rfl) (Nat.le_of_ble_eq_true rfl) (hbad (by rw [hz]; exact hk)) hP hD hS hc)
