/-! SHEETS 3: sheet -/
set_option maxRecDepth 100000
theorem z_tab1 {T : List ExceptionTableEntry} {a : Nat × Nat × Nat × Nat} (h : T.map (fun h => (h.startPc, h.endPc, h.handlerPc, h.catchType)) = [a]) : ∃ x, T = [x] ∧ (x.startPc, x.endPc, x.handlerPc, x.catchType) = a := by
  match T, h with
  | [x], h =>
    simp only [List.map_cons, List.map_nil, List.cons.injEq, and_true] at h
    exact ⟨x, rfl, h⟩
theorem z_push {kk : Nat → ClassId} {A : Nat → Prop} {X : va_W} {L : List Nat} {pk pn : Nat → Nat} {pc : Nat → Nat → Int32} {q i n : Nat} {v : Nat → Int32} (hD : va_D A (X ++ va_pl L (zPf kk pk pn pc) ++ [(q, .inl (kk (zk i), n, .inl v))])) :
    q ∉ L ∧ X ++ va_pl L (zPf kk pk pn pc) ++ [(q, .inl (kk (zk i), n, .inl v))] = X ++ va_pl (L ++ [q]) (zPf kk (va_up pk q i) (va_up pn q n) (va_up pc q v)) := by
  have hq : q ∉ L := by
    intro h
    obtain ⟨k, hk⟩ := va_pl_get (X := X) (f := zPf kk pk pn pc) h
    have hl := (List.getElem?_eq_some_iff.mp hk).1
    have h1 : (X ++ va_pl L (zPf kk pk pn pc) ++ [(q, .inl (kk (zk i), n, .inl v))])[k]? = some (q, zPf kk pk pn pc q) := by rw [List.getElem?_append_left hl]; exact hk
    have h2 : (X ++ va_pl L (zPf kk pk pn pc) ++ [(q, .inl (kk (zk i), n, .inl v))])[(X ++ va_pl L (zPf kk pk pn pc)).length]? = some (q, .inl (kk (zk i), n, .inl v)) := by
      rw [List.getElem?_append_right (Nat.le_refl _), Nat.sub_self]; rfl
    have := hD.1 _ _ _ _ h1 h2 rfl
    omega
  refine ⟨hq, ?_⟩
  rw [List.append_assoc, va_pl_push hq]
  congr 1
  refine va_pl_congr (fun b => ?_)
  by_cases hb : b = q
  · subst hb
    rw [va_up_self]
    show _ = Sum.inl (kk (zk (va_up pk b i b)), va_up pn b n b, Sum.inl (va_up pc b v b))
    rw [va_up_self, va_up_self, va_up_self]
  · rw [va_up_ne _ _ hb]
    show _ = Sum.inl (kk (zk (va_up pk q i b)), va_up pn q n b, Sum.inl (va_up pc q v b))
    rw [va_up_ne _ _ hb, va_up_ne _ _ hb, va_up_ne _ _ hb]
theorem z_sxset {kk : Nat → ClassId} {ad : Nat → Nat} {f : Nat → Int32} {g : Nat → Int64} {sr : Nat → Option Nat} {pl : va_W} {j q : Nat} (hj : j < 4) : (zSX kk ad f g sr ++ pl).set (2 + j) (ad (26 + j), .inr (6, ([va_rf (sr j)] : List Value).set 0 (.ref q))) = zSX kk ad f g (va_up sr j (some q)) ++ pl := by
  have h : j = 0 ∨ j = 1 ∨ j = 2 ∨ j = 3 := by omega
  rcases h with rfl | rfl | rfl | rfl <;> rfl
abbrev zQ5 : Type := (Nat → Option Nat) × List Nat × (Nat → Nat) × (Nat → Nat) × (Nat → Nat → Int32)
def wpX0_sheet (sr : Nat → Option Nat) (L : List Nat) (pk pn : Nat → Nat) (pc : Nat → Nat → Int32) (p1 p2 p3 : Int32) (Q : Int32 → zQ5 → Prop) : Prop :=
  wpX0_isSheet p1 p2 (fun r => (r = 0 → Q (-1 : Int32) (sr, L, pk, pn, pc)) ∧ (¬ r = 0 → (¬ p3 ≤ (40 : Int32) → Q (-1 : Int32) (sr, L, pk, pn, pc)) ∧ (p3 ≤ (40 : Int32) → p3.toNatClampNeg ≤ 40 ∧ ∃ j : Nat, j < 4 ∧ p1 = nI j ∧ (p3 < 0 → Q (-14 : Int32) (sr, L, pk, pn, pc)) ∧ (¬ p3 < 0 → ∀ a, a ∉ L → Q (1 : Int32) (va_up sr j (some a), L ++ [a], va_up pk a (if p2 = 0 then 0 else if p2 = 1 then 1 else 2), va_up pn a p3.toNatClampNeg, va_up pc a (fun _ => 0))))))
abbrev zSW (kk : Nat → ClassId) (ad : Nat → Nat) (f : Nat → Int32) (g : Nat → Int64) (u : zQ5) : va_W := zSX kk ad f g u.1 ++ va_pl u.2.1 (zPf kk u.2.2.1 u.2.2.2.1 u.2.2.2.2)
set_option maxHeartbeats 4000000 in
theorem metX0_sheet (l : Launch) (htr : l.stackTraces = false) (D : va_G) (kk : Nat → ClassId) (ad : Nat → Nat) (sz : Nat) (f : Nat → Int32) (g : Nat → Int64) (sr : Nat → Option Nat) (L : List Nat) (pk pn : Nat → Nat) (pc : Nat → Nat → Int32) (p1 p2 p3 : Int32) (Q : Int32 → zQ5 → Prop) (h : wpX0_sheet sr L pk pn pc p1 p2 p3 Q) :
    MetX l yX0_sheet (Cond.codeWith yX0_sheet cX0_sheet 5 (some .int) [(16, 50, 51, 329)] :: lw_all) { frames := 8, cells := 3, slots := 222, locals := 10300 } (va_Pc ([.ref (ad 0), .int p1, .int p2, .int p3] : List Value) (zPX D kk (zSW kk ad f g (sr, L, pk, pn, pc)) sz))
      (zQX (fun r : Int32 => some (.int r)) (fun (r : Int32) (u : zQ5) => Q r u) (zB D (va_A (zSW kk ad f g (sr, L, pk, pn, pc)) sz) (fun u => zSW kk ad f g u)) (fun _ : Unit => False) (zBT D (va_A (zSW kk ad f g (sr, L, pk, pn, pc)) sz) (fun _ _ => []) (fun _ => "")) (va_A (zSW kk ad f g (sr, L, pk, pn, pc)) sz)) 3 222 (va_A (zSW kk ad f g (sr, L, pk, pn, pc)) sz) := by
  refine zMetP (Qc := fun A => zQX (fun r : Int32 => some (.int r)) (fun (r : Int32) (u : zQ5) => Q r u) (zB D A (fun u => zSW kk ad f g u)) (fun _ : Unit => False) (zBT D A (fun _ _ => []) (fun _ => "")) A) htr (by decide) (Or.inr rfl) (Nat.le_of_ble_eq_true rfl) ?_
  intro p e s m below meth c A X hh htab had hP hD hS ls hl
  obtain ⟨hx, hb, hr, hml, hown, hts, hlk, hnm, hK, hN, hA⟩ := X
  have hown : s.vm.findClass "LoseLeague" = some m.cls := hown
  have hl : lv_has ls 5 [(0, .ref (ad 0)), (1, .int p1), (2, .int p2), (3, .int p3)] := hl
  obtain ⟨x1, htl, t1⟩ := z_tab1 htab
  have hpl : e.platform.magicAccessors = ({} : Platform).magicAccessors := by rw [had.platform]
  unfold wpX0_sheet at h
  have fin : ∀ (u : zQ5) (v : Int32) (pcc : Nat) (H : Heap) (locs : List Loc) (cl sl : Nat) (ls : Array Slot), decode cX0_sheet pcc = .ok (.ireturn, 1) → cl ≤ 3 → sl ≤ 222 → Q v u → va_P D vwCl (zSW kk ad f g u) H → va_D A (zSW kk ad f g u) → va_S A s.heap H locs →
      W p l e { frames := 8, cells := 3, slots := 222, locals := 10300 } s m ([.ref (ad 0), .int p1, .int p2, .int p3] : List Value).toArray below meth c H locs cl sl (MT below (zQX (fun r : Int32 => some (.int r)) (fun (r : Int32) (u : zQ5) => Q r u) (zB D A (fun u => zSW kk ad f g u)) (fun _ : Unit => False) (zBT D A (fun _ _ => []) (fun _ => "")) A) ([.ref (ad 0), .int p1, .int p2, .int p3] : List Value).toArray s 3 222 A) (F0 m pcc ls [.int v]) := by
    intro u v pcc H locs cl sl ls hd h1 h2 hq hP hD hS
    refine W.widen (k := 3) (n := 222) h1 h2 ?_
    refine W.mono (MQ_MT (Qc := va_Qi (fun (r : Int32) (u : zQ5) => Q r u) (zB D A (fun u => zSW kk ad f g u)) A) fun o t hq => ?_) ?_
    · obtain ⟨⟨r, u, h1, h2, h3⟩, h4⟩ := hq
      exact ⟨Or.inl ⟨r, u, h1, h2, h3⟩, h4⟩
    · exact W.zret (v := v) hx hb hr rfl (fun t ht hW => ⟨⟨v, u, rfl, hq, by rw [ht]; exact hP, hD⟩, hS.F ht⟩) hS.2.2 hd
  refine lv_iload_n hx hb dX0_sheet_0 rfl (lv_at hl 1 rfl) ?_
  refine lv_iload_n hx hb dX0_sheet_1 rfl (lv_at hl 2 rfl) ?_
  refine zq_i (X := zSX kk ad f g sr) (wc := []) (wr := zSX kk ad f g sr) (w1 := fun _ : Unit => []) (rest := []) [] [0, 1, 2, 3, 4, 5] rfl rfl (by decide) (by decide) (by decide) hA hP hD hS (fun hP hD => va_runS (As := [.int p1, .int p2]) (rest := []) ⟨hx, hb, hml, hown, hts⟩ (metX0_isSheet l D kk _ p1 p2 _ h) (va_cwS 2 hts (lw_S q841 q842 q64 q843) rfl rfl rfl pdX0_isSheet.2 ⟨(Nat.le_of_ble_eq_true rfl), (Nat.le_of_ble_eq_true rfl)⟩) (zp_S hK hN hP hD) rfl rfl hl.1 rfl (lv_room (Nat.le_of_ble_eq_true rfl)) dX0_sheet_2 ⟨(Nat.le_of_ble_eq_true rfl), (Nat.le_of_ble_eq_true rfl)⟩) (fun r u H locs h hP hD hS => ?_)
  have hP : va_P D vwCl (zSW kk ad f g (sr, L, pk, pn, pc)) H := hP
  have hD : va_D A (zSW kk ad f g (sr, L, pk, pn, pc)) := hD
  refine lv_if_eq (tgt := 14) hx hb dX0_sheet_5 (by decide) (fun c1 => ?_) (fun c1 => ?_)
  · refine lv_iconst (v := (-1 : Int32)) hx hb dX0_sheet_14 (by decide) ?_
    exact fin _ _ _ _ _ _ _ _ dX0_sheet_15 (Nat.le_of_ble_eq_true rfl) (Nat.le_of_ble_eq_true rfl) (h.1 c1) hP hD hS
  refine lv_iload_n hx hb dX0_sheet_8 rfl (lv_at hl 3 rfl) ?_
  refine lv_bipush (v := (40 : Int32)) hx hb dX0_sheet_9 (by decide) ?_
  refine lv_icmp_le (tgt := 16) hx hb dX0_sheet_11 (by decide) (fun c2 => ?_) (fun c2 => ?_)
  · obtain ⟨h40, j, hj, rfl, hneg, hpos⟩ := (h.2 c1).2 c2
    obtain ⟨hw, hw2, hin⟩ := z_sx (kk := kk) (ad := ad) (f := f) (g := g) (sr := sr) (pl := va_pl L (zPf kk pk pn pc)) hj
    have negc : ∀ (H1 : Heap) (x : Nat) (locs : List Loc) (cl sl pcc : Nat) (st : List Value), 16 ≤ pcc → pcc < 50 → cl ≤ 3 → sl ≤ 222 → p3 < 0 → va_P D vwCl (zSW kk ad f g (sr, L, pk, pn, pc)) H1 → va_S A s.heap H1 locs → (∃ cell : Cell, H1[x]? = some cell ∧ cell.vm.isStatics = false ∧ s.vm.findClass "java/lang/NegativeArraySizeException" = some cell.cls) →
        WT p l e { frames := 8, cells := 3, slots := 222, locals := 10300 } s m ([.ref (ad 0), .int (nI j), .int p2, .int p3] : List Value).toArray below meth c H1 locs cl sl (MT below (zQX (fun r : Int32 => some (.int r)) (fun (r : Int32) (u : zQ5) => Q r u) (zB D A (fun u => zSW kk ad f g u)) (fun _ : Unit => False) (zBT D A (fun _ _ => []) (fun _ => "")) A) ([.ref (ad 0), .int (nI j), .int p2, .int p3] : List Value).toArray s 3 222 A) (F0 m pcc ls st) x := by
      intro H1 x locs cl sl pcc st g1 g2 g3 g4 hn hP hS hc
      obtain ⟨cell, hc1, hc2, hc3⟩ := hc
      have e1 : x1.handlerPc = 51 ∧ x1.catchType = 329 := by simp only [Prod.mk.injEq] at t1; exact ⟨t1.2.2.1, t1.2.2.2⟩
      refine z_caught (pc' := 51) (fun T hT hW => ?_) ?_
      · rw [htl, ← e1.1]
        exact zGo_hit (s := s) (C := "java/lang/NegativeArraySizeException") (CX := "java/lang/NegativeArraySizeException") hpl hW hown (by rw [e1.2]; exact hts _ q812) (z_cov t1 g1 g2) (by rw [e1.2]; decide) (by rw [Stand.throwing_heap, hT]; exact hc1) hc2 hc3 (zN_c hN 1 rfl)
      · refine lv_astore (lv' := [(4, .ref x), (0, .ref (ad 0)), (1, .int (nI j)), (2, .int p2), (3, .int p3)]) hx hb dX0_sheet_51 hl (by decide) rfl (fun ls hl => ?_)
        refine lv_bipush (v := (-14 : Int32)) hx hb dX0_sheet_53 (by decide) ?_
        exact fin _ _ _ _ _ _ _ _ dX0_sheet_55 g3 g4 (hneg hn) hP hD hS
    have put : ∀ (q i : Nat) (H : Heap) (locs : List Loc) (cl sl : Nat), cl ≤ 3 → sl ≤ 222 → ¬ p3 < 0 → i = (if p2 = 0 then 0 else if p2 = 1 then 1 else 2) → va_P D vwCl (zSW kk ad f g (sr, L, pk, pn, pc) ++ [(q, .inl (kk (zk i), p3.toNatClampNeg, .inl (fun _ => 0)))]) H → va_D A (zSW kk ad f g (sr, L, pk, pn, pc) ++ [(q, .inl (kk (zk i), p3.toNatClampNeg, .inl (fun _ => 0)))]) → va_S A s.heap H locs →
        W p l e { frames := 8, cells := 3, slots := 222, locals := 10300 } s m ([.ref (ad 0), .int (nI j), .int p2, .int p3] : List Value).toArray below meth c H locs cl sl (MT below (zQX (fun r : Int32 => some (.int r)) (fun (r : Int32) (u : zQ5) => Q r u) (zB D A (fun u => zSW kk ad f g u)) (fun _ : Unit => False) (zBT D A (fun _ _ => []) (fun _ => "")) A) ([.ref (ad 0), .int (nI j), .int p2, .int p3] : List Value).toArray s 3 222 A) (F0 m 46 ls [.ref q, .ref (ad (26 + j))]) := by
      intro q i H locs cl sl g1 g2 hn hi hP hD hS
      obtain ⟨hq, heq⟩ := z_push hD
      rw [heq] at hP hD
      obtain ⟨hw, -, -⟩ := z_sx (kk := kk) (ad := ad) (f := f) (g := g) (sr := sr) (pl := va_pl (L ++ [q]) (zPf kk (va_up pk q i) (va_up pn q p3.toNatClampNeg) (va_up pc q (fun _ => 0)))) hj
      refine va_putN (D := D) (ci := 6) (v := .ref q) (C := RX6) (T := TX6) (N := 1) hx hb hts in_X6 tyX6 tyX6_ok nmX6 hown hK hP hD hS (2 + j) hw rfl 0 (Nat.le_of_ble_eq_true rfl) (zN_f hN 7 rfl rfl) (fun _ h9 => h9) rfl (tyX6_ok 0 (Nat.le_of_ble_eq_true rfl)) rfl rfl (Nat.le_of_ble_eq_true rfl) dX0_sheet_46 (fun H locs hP hD hS => ?_)
      rw [z_sxset hj] at hP hD
      refine lv_iconst (v := (1 : Int32)) hx hb dX0_sheet_49 (by decide) ?_
      subst hi
      exact fin (va_up sr j (some q), L ++ [q], va_up pk q _, va_up pn q p3.toNatClampNeg, va_up pc q (fun _ => 0)) _ _ _ _ _ _ _ dX0_sheet_50 g1 g2 (hpos hn q hq) hP hD hS
    refine lv_aload_n hx hb dX0_sheet_16 rfl (lv_at hl 0 rfl) ?_
    refine va_get (D := D) (ci := 0) (v := .ref (ad 25)) (C := RX0) (T := TX0) (N := 25) hx hb hts in_X0 hown hK hP 0 rfl rfl 23 (Nat.le_of_ble_eq_true rfl) (hts _ q196) (fun _ h9 => h9) rfl dX0_sheet_17 ?_
    refine lv_iload_n hx hb dX0_sheet_20 rfl (lv_at hl 1 rfl) ?_
    refine va_aldq hx hb hK hP 1 6 rfl rfl hin dX0_sheet_21 ?_
    rw [hw2]
    refine lv_iload_n hx hb dX0_sheet_22 rfl (lv_at hl 2 rfl) ?_
    refine lv_if_ne (tgt := 32) hx hb dX0_sheet_23 (by decide) (fun d1 => ?_) (fun d1 => ?_)
    · refine lv_iload_n hx hb dX0_sheet_32 rfl (lv_at hl 2 rfl) ?_
      refine lv_iconst (v := (1 : Int32)) hx hb dX0_sheet_33 (by decide) ?_
      refine lv_icmp_ne (tgt := 43) hx hb dX0_sheet_34 (by decide) (fun d2 => ?_) (fun d2 => ?_)
      · refine lv_iload_n hx hb dX0_sheet_43 rfl (lv_at hl 3 rfl) ?_
        by_cases hn : p3 < 0
        · exact z_newneg (rest := [.ref (ad (26 + j))]) hx hb hh (hl.1.trans hml.symm) (Nat.le_of_ble_eq_true rfl) (Nat.le_of_ble_eq_true rfl) (Nat.le_of_ble_eq_true rfl) (Nat.le_of_ble_eq_true rfl) hP hS hn dX0_sheet_44 (fun H1 x hP hS hc => negc H1 x _ _ _ _ _ (Nat.le_of_ble_eq_true rfl) (Nat.le_of_ble_eq_true rfl) (Nat.le_of_ble_eq_true rfl) (Nat.le_of_ble_eq_true rfl) hn hP hS hc)
        · refine z_newa (atype := .int) (kA := kk 1) (ty := .int) (N' := p3.toNatClampNeg) (a0 := (p3.toNatClampNeg, .inl (fun _ => 0))) hx hb (hts _ q171) rfl hK 1 rfl rfl hP hD hS hA (fun _ => rfl) hn rfl (by show p3.toNatClampNeg * 4 ≤ _; omega) (Nat.le_of_ble_eq_true rfl) (by show 0 + 0 + p3.toNatClampNeg ≤ 222; omega) dX0_sheet_44 (fun q H hP hD hS => ?_)
          exact put q 2 H _ _ _ (Nat.le_of_ble_eq_true rfl) (by show 0 + 0 + p3.toNatClampNeg ≤ 222; omega) hn (by rw [if_neg d1, if_neg d2]) hP hD hS
      · refine lv_iload_n hx hb dX0_sheet_37 rfl (lv_at hl 3 rfl) ?_
        by_cases hn : p3 < 0
        · exact z_newneg (rest := [.ref (ad (26 + j))]) hx hb hh (hl.1.trans hml.symm) (Nat.le_of_ble_eq_true rfl) (Nat.le_of_ble_eq_true rfl) (Nat.le_of_ble_eq_true rfl) (Nat.le_of_ble_eq_true rfl) hP hS hn dX0_sheet_38 (fun H1 x hP hS hc => negc H1 x _ _ _ _ _ (Nat.le_of_ble_eq_true rfl) (Nat.le_of_ble_eq_true rfl) (Nat.le_of_ble_eq_true rfl) (Nat.le_of_ble_eq_true rfl) hn hP hS hc)
        · refine z_newa (atype := .short) (kA := kk 3) (ty := .short) (N' := p3.toNatClampNeg) (a0 := (p3.toNatClampNeg, .inl (fun _ => 0))) hx hb (hts _ q844) rfl hK 3 rfl rfl hP hD hS hA (fun _ => rfl) hn rfl (by show p3.toNatClampNeg * 2 ≤ _; omega) (Nat.le_of_ble_eq_true rfl) (by show 0 + 0 + p3.toNatClampNeg ≤ 222; omega) dX0_sheet_38 (fun q H hP hD hS => ?_)
          refine lv_goto (tgt := 46) hx hb dX0_sheet_40 (by decide) ?_
          exact put q 1 H _ _ _ (Nat.le_of_ble_eq_true rfl) (by show 0 + 0 + p3.toNatClampNeg ≤ 222; omega) hn (by rw [if_neg d1, if_pos d2]) hP hD hS
    · refine lv_iload_n hx hb dX0_sheet_26 rfl (lv_at hl 3 rfl) ?_
      by_cases hn : p3 < 0
      · exact z_newneg (rest := [.ref (ad (26 + j))]) hx hb hh (hl.1.trans hml.symm) (Nat.le_of_ble_eq_true rfl) (Nat.le_of_ble_eq_true rfl) (Nat.le_of_ble_eq_true rfl) (Nat.le_of_ble_eq_true rfl) hP hS hn dX0_sheet_27 (fun H1 x hP hS hc => negc H1 x _ _ _ _ _ (Nat.le_of_ble_eq_true rfl) (Nat.le_of_ble_eq_true rfl) (Nat.le_of_ble_eq_true rfl) (Nat.le_of_ble_eq_true rfl) hn hP hS hc)
      · refine z_newa (atype := .byte) (kA := kk 0) (ty := .byte) (N' := p3.toNatClampNeg) (a0 := (p3.toNatClampNeg, .inl (fun _ => 0))) hx hb (hts _ q158) rfl hK 0 rfl rfl hP hD hS hA (fun _ => rfl) hn rfl (by show p3.toNatClampNeg * 1 ≤ _; omega) (Nat.le_of_ble_eq_true rfl) (by show 0 + 0 + p3.toNatClampNeg ≤ 222; omega) dX0_sheet_27 (fun q H hP hD hS => ?_)
        refine lv_goto (tgt := 46) hx hb dX0_sheet_29 (by decide) ?_
        exact put q 0 H _ _ _ (Nat.le_of_ble_eq_true rfl) (by show 0 + 0 + p3.toNatClampNeg ≤ 222; omega) hn (by rw [if_pos d1]) hP hD hS
  · refine lv_iconst (v := (-1 : Int32)) hx hb dX0_sheet_14 (by decide) ?_
    exact fin _ _ _ _ _ _ _ _ dX0_sheet_15 (Nat.le_of_ble_eq_true rfl) (Nat.le_of_ble_eq_true rfl) ((h.2 c1).1 c2) hP hD hS
