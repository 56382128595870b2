/-! SHEETS 2: lay -/
set_option maxRecDepth 100000
theorem z_tab2 {T : List ExceptionTableEntry} {a b : Nat × Nat × Nat × Nat} (h : T.map (fun h => (h.startPc, h.endPc, h.handlerPc, h.catchType)) = [a, b]) : ∃ x y, T = [x, y] ∧ (x.startPc, x.endPc, x.handlerPc, x.catchType) = a ∧ (y.startPc, y.endPc, y.handlerPc, y.catchType) = b := by
  match T, h with
  | [x, y], h =>
    simp only [List.map_cons, List.map_nil, List.cons.injEq, and_true] at h
    exact ⟨x, y, rfl, h.1, h.2⟩
theorem z_cov {x : ExceptionTableEntry} {a b c d pc : Nat} (h : (x.startPc, x.endPc, x.handlerPc, x.catchType) = (a, b, c, d)) (h1 : a ≤ pc) (h2 : pc < b) : covers x pc = true := by
  simp only [Prod.mk.injEq] at h
  simp [covers, h.1, h.2.1, h1, h2]
def zNar : Nat → Int32 → Int32
  | 0, v => vp_nar .byte (v.toInt8.toInt32)
  | 1, v => vp_nar .short (v.toInt16.toInt32)
  | _, v => v
def wpX0_lay (sr : Nat → Option Nat) (L : List Nat) (pk pn : Nat → Nat) (pc : Nat → Nat → Int32) (p1 p2 p3 : Int32) (Q : Int32 → (Nat → Nat → Int32) → Prop) : Prop :=
  wpX0_in p1.toInt64 (0 : Int64) (3 : Int64) (fun r => (r = 0 → Q (-1 : Int32) pc) ∧ (¬ r = 0 → ∃ j : Nat, j < 4 ∧ p1 = nI j ∧ ((sr j = none → Q (-11 : Int32) pc) ∧ ∀ a, sr j = some a → a ∈ L ∧ pn a < 2 ^ 31 ∧ (vp_in p2 (pn a) → Q (1 : Int32) (va_up pc a (upd (pc a) p2.toNatClampNeg (zNar (pk a) p3)))) ∧ (¬ vp_in p2 (pn a) → Q (-12 : Int32) pc))))
theorem z_sx {kk : Nat → ClassId} {ad : Nat → Nat} {f : Nat → Int32} {g : Nat → Int64} {sr : Nat → Option Nat} {pl : va_W} {j : Nat} (hj : j < 4) : (zSX kk ad f g sr ++ pl)[2 + j]? = some (ad (26 + j), .inr (6, [va_rf (sr j)])) ∧ va_rf (zSf ad (nI j).toNatClampNeg) = .ref (ad (26 + j)) ∧ vp_in (nI j) 4 := by
  have h : j = 0 ∨ j = 1 ∨ j = 2 ∨ j = 3 := by omega
  rcases h with rfl | rfl | rfl | rfl <;> exact ⟨rfl, rfl, vp_in_nI (by decide) (by decide)⟩
set_option maxHeartbeats 4000000 in
theorem metX0_lay (l : Launch) (htr : l.stackTraces = false) (D : va_G) (kk : Nat → ClassId) (ad : Nat → Nat) (sz : Nat) (f : Nat → Int32) (g : Nat → Int64) (sr : Nat → Option Nat) (L : List Nat) (pk pn : Nat → Nat) (pc : Nat → Nat → Int32) (p1 p2 p3 : Int32) (Q : Int32 → (Nat → Nat → Int32) → Prop) (h : wpX0_lay sr L pk pn pc p1 p2 p3 Q) :
    MetX l yX0_lay (Cond.codeWith yX0_lay cX0_lay 6 (some .int) [(25, 74, 75, 335), (25, 74, 80, 337)] :: lw_all) { frames := 8, cells := 3, slots := 222, locals := 10300 } (va_Pc ([.ref (ad 0), .int p1, .int p2, .int p3] : List Value) (zPX D kk (zSX kk ad f g sr ++ va_pl L (zPf kk pk pn pc)) sz))
      (zQX (fun r : Int32 => some (.int r)) (fun (r : Int32) (u : Nat → Nat → Int32) => Q r u) (zB D (va_A (zSX kk ad f g sr ++ va_pl L (zPf kk pk pn pc)) sz) (fun u => zSX kk ad f g sr ++ va_pl L (zPf kk pk pn u))) (fun _ : Unit => False) (zBT D (va_A (zSX kk ad f g sr ++ va_pl L (zPf kk pk pn pc)) sz) (fun _ _ => []) (fun _ => "")) (va_A (zSX kk ad f g sr ++ va_pl L (zPf kk pk pn pc)) sz)) 3 222 (va_A (zSX kk ad f g sr ++ va_pl L (zPf kk pk pn pc)) sz) := by
  refine zMetP (Qc := fun A => zQX (fun r : Int32 => some (.int r)) (fun (r : Int32) (u : Nat → Nat → Int32) => Q r u) (zB D A (fun u => zSX kk ad f g sr ++ va_pl L (zPf kk pk pn u))) (fun _ : Unit => False) (zBT D A (fun _ _ => []) (fun _ => "")) A) htr (by decide) (Or.inr rfl) (Nat.le_of_ble_eq_true rfl) ?_
  intro p e s m below meth c A X hh htab had hP hD hS ls hl
  obtain ⟨hx, hb, hr, hml, hown, hts, hlk, hnm, hK, hN, hA⟩ := X
  have hown : s.vm.findClass "LoseLeague" = some m.cls := hown
  have hl : lv_has ls 6 [(0, .ref (ad 0)), (1, .int p1), (2, .int p2), (3, .int p3)] := hl
  obtain ⟨x1, x2, htl, t1, t2⟩ := z_tab2 htab
  have hpl : e.platform.magicAccessors = ({} : Platform).magicAccessors := by rw [had.platform]
  unfold wpX0_lay at h
  -- the end, whatever has come of the pool
  have fin : ∀ (pq : Nat → Nat → Int32) (v : Int32) (pcc : Nat) (H : Heap) (locs : List Loc) (cl sl : Nat) (ls : Array Slot), decode cX0_lay pcc = .ok (.ireturn, 1) → cl ≤ 3 → sl ≤ 222 → Q v pq → va_P D vwCl (zSX kk ad f g sr ++ va_pl L (zPf kk pk pn pq)) H → va_D A (zSX kk ad f g sr ++ va_pl L (zPf kk pk pn pq)) → va_S A s.heap H locs →
      W p l e { frames := 8, cells := 3, slots := 222, locals := 10300 } s m ([.ref (ad 0), .int p1, .int p2, .int p3] : List Value).toArray below meth c H locs cl sl (MT below (zQX (fun r : Int32 => some (.int r)) (fun (r : Int32) (u : Nat → Nat → Int32) => Q r u) (zB D A (fun u => zSX kk ad f g sr ++ va_pl L (zPf kk pk pn u))) (fun _ : Unit => False) (zBT D A (fun _ _ => []) (fun _ => "")) A) ([.ref (ad 0), .int p1, .int p2, .int p3] : List Value).toArray s 3 222 A) (F0 m pcc ls [.int v]) := by
    intro pq v pcc H locs cl sl ls hd h1 h2 hq hP hD hS
    refine W.widen (k := 3) (n := 222) h1 h2 ?_
    refine W.mono (MQ_MT (Qc := va_Qi (fun (r : Int32) (u : Nat → Nat → Int32) => Q r u) (zB D A (fun u => zSX kk ad f g sr ++ va_pl L (zPf kk pk pn u))) A) fun o t hq => ?_) ?_
    · obtain ⟨⟨r, u, h1, h2, h3⟩, h4⟩ := hq
      exact ⟨Or.inl ⟨r, u, h1, h2, h3⟩, h4⟩
    · exact W.zret (v := v) hx hb hr rfl (fun t ht hW => ⟨⟨v, pq, rfl, hq, by rw [ht]; exact hP, hD⟩, hS.F ht⟩) hS.2.2 hd
  refine lv_iload_n hx hb dX0_lay_0 rfl (lv_at hl 1 rfl) ?_
  refine lv_i2l hx hb dX0_lay_1 rfl ?_
  refine lv_lconst (v := (0 : Int64)) hx hb dX0_lay_2 (by decide) ?_
  refine lv_ldc2 (v := (3 : Int64)) hx hb hown (hts _ q575) dX0_lay_3 ?_
  refine zq_i (X := zSX kk ad f g sr) (wc := []) (wr := zSX kk ad f g sr) (w1 := fun _ : Unit => []) (rest := []) [] [0, 1, 2, 3, 4, 5] rfl rfl (by decide) (by decide) (by decide) hA hP hD hS (fun hP hD => va_runS (As := [.long p1.toInt64, .long (0 : Int64), .long (3 : Int64)]) (rest := []) ⟨hx, hb, hml, hown, hts⟩ (metX0_in l D kk _ p1.toInt64 (0 : Int64) (3 : Int64) _ h) (va_cwS 3 hts (lw_S q254 q255 q64 q256) rfl rfl rfl pdX0_in.2 ⟨(Nat.le_of_ble_eq_true rfl), (Nat.le_of_ble_eq_true rfl)⟩) (zp_S hK hN hP hD) rfl rfl hl.1 rfl (lv_room (Nat.le_of_ble_eq_true rfl)) dX0_lay_6 ⟨(Nat.le_of_ble_eq_true rfl), (Nat.le_of_ble_eq_true rfl)⟩) (fun r u H locs h hP hD hS => ?_)
  have hP : va_P D vwCl (zSX kk ad f g sr ++ va_pl L (zPf kk pk pn pc)) H := hP
  have hD : va_D A (zSX kk ad f g sr ++ va_pl L (zPf kk pk pn pc)) := hD
  refine lv_if_ne (tgt := 14) hx hb dX0_lay_9 (by decide) (fun c1 => ?_) (fun c1 => ?_)
  · obtain ⟨j, hj, rfl, hn0, hs0⟩ := h.2 c1
    obtain ⟨hw, hw2, hin⟩ := z_sx (kk := kk) (ad := ad) (f := f) (g := g) (sr := sr) (pl := va_pl L (zPf kk pk pn pc)) hj
    refine lv_aload_n hx hb dX0_lay_14 rfl (lv_at hl 0 rfl) ?_
    refine va_get (D := D) (ci := 0) (v := .ref (ad 25)) (C := RX0) (T := TX0) (N := 25) hx hb hts in_X0 hown hK hP 0 rfl rfl 23 (Nat.le_of_ble_eq_true rfl) (hts _ q196) (fun _ h9 => h9) rfl dX0_lay_15 ?_
    refine lv_iload_n hx hb dX0_lay_18 rfl (lv_at hl 1 rfl) ?_
    refine va_aldq hx hb hK hP 1 6 rfl rfl hin dX0_lay_19 ?_
    rw [hw2]
    refine va_getN (D := D) (ci := 6) (v := va_rf (sr j)) (C := RX6) (T := TX6) (N := 1) hx hb hts in_X6 hown hK hP (2 + j) hw rfl 0 (Nat.le_of_ble_eq_true rfl) (zN_f hN 7 rfl rfl) (fun _ h9 => h9) rfl dX0_lay_20 ?_
    cases ho : sr j with
    | none =>
      have hq := hn0 ho
      show W _ _ _ _ _ _ _ _ _ _ _ _ _ _ _ (F0 m (20 + 3) ls [.null])
      refine lv_astoreN (lv' := [(4, .null), (0, .ref (ad 0)), (1, .int (nI j)), (2, .int p2), (3, .int p3)]) hx hb dX0_lay_23 hl (by decide) rfl (fun ls hl => ?_)
      refine lv_aloadN hx hb dX0_lay_25 (lv_at hl 0 rfl) ?_
      refine lv_instN hx hb dX0_lay_27 ?_
      refine lv_if_eq (tgt := 45) hx hb dX0_lay_30 (by decide) (fun _ => ?_) (fun c2 => absurd rfl c2)
      refine lv_aloadN hx hb dX0_lay_45 (lv_at hl 0 rfl) ?_
      refine lv_instN hx hb dX0_lay_47 ?_
      refine lv_if_eq (tgt := 65) hx hb dX0_lay_50 (by decide) (fun _ => ?_) (fun c2 => absurd rfl c2)
      refine lv_aloadN hx hb dX0_lay_65 (lv_at hl 0 rfl) ?_
      refine lv_castN hx hb dX0_lay_67 ?_
      refine lv_iload_n hx hb dX0_lay_70 rfl (lv_at hl 3 rfl) ?_
      refine lv_iload_n hx hb dX0_lay_71 rfl (lv_at hl 4 rfl) ?_
      refine z_null (rest := []) hx hb hh (hl.1.trans hml.symm) (Nat.le_of_ble_eq_true rfl) (Nat.le_of_ble_eq_true rfl) (Nat.le_of_ble_eq_true rfl) (Nat.le_of_ble_eq_true rfl) hP hS (Or.inr (Or.inr (Or.inr ⟨rfl, _, _, rfl⟩))) dX0_lay_72 (fun H1 x hP hS hc => ?_)
      obtain ⟨cell, hc1, hc2, hc3⟩ := hc
      have e1 : x1.handlerPc = 75 ∧ x1.catchType = 335 := by simp only [Prod.mk.injEq] at t1; exact ⟨t1.2.2.1, t1.2.2.2⟩
      refine z_caught (pc' := 75) (fun T hT hW => ?_) ?_
      · rw [htl, ← e1.1]
        exact zGo_hit (s := s) (C := "java/lang/NullPointerException") (CX := "java/lang/NullPointerException") hpl hW hown (by rw [e1.2]; exact hts _ q849) (z_cov t1 (Nat.le_of_ble_eq_true rfl) (Nat.le_of_ble_eq_true rfl)) (by rw [e1.2]; decide) (by rw [Stand.throwing_heap, hT]; exact hc1) hc2 hc3 (zN_c hN 2 rfl)
      · refine lv_astore (lv' := [(5, .ref x), (4, .null), (0, .ref (ad 0)), (1, .int (nI j)), (2, .int p2), (3, .int p3)]) hx hb dX0_lay_75 hl (by decide) rfl (fun ls hl => ?_)
        refine lv_bipush (v := (-11 : Int32)) hx hb dX0_lay_77 (by decide) ?_
        exact fin pc _ _ _ _ _ _ _ dX0_lay_79 (Nat.le_of_ble_eq_true rfl) (Nat.le_of_ble_eq_true rfl) hq hP hD hS
    | some a =>
      obtain ⟨haL, hlen, hok, hbad⟩ := hs0 a ho
      show W _ _ _ _ _ _ _ _ _ _ _ _ _ _ _ (F0 m (20 + 3) ls [.ref a])
      match hpk : pk a with
      | 0 =>
        obtain ⟨⟨q0, hq0⟩, hcell⟩ := z_pool (s := s) hK hP haL hpk
        refine lv_astore (lv' := [(4, .ref a), (0, .ref (ad 0)), (1, .int (nI j)), (2, .int p2), (3, .int p3)]) hx hb dX0_lay_23 hl (by decide) rfl (fun ls hl => ?_)
        refine lv_aload hx hb dX0_lay_25 (lv_at hl 0 rfl) ?_
        refine z_inst (nm := "[B") hx hb hown (hts _ q893) hcell dX0_lay_27 ?_
        refine lv_if_eq (tgt := 45) hx hb dX0_lay_30 (by decide) (fun c2 => absurd c2 (by decide)) (fun _ => ?_)
        refine lv_aload hx hb dX0_lay_33 (lv_at hl 0 rfl) ?_
        refine z_castT (nm := "[B") hx hb hown (hts _ q893) hcell dX0_lay_35 ?_
        refine lv_iload_n hx hb dX0_lay_38 rfl (lv_at hl 3 rfl) ?_
        refine lv_iload_n hx hb dX0_lay_39 rfl (lv_at hl 4 rfl) ?_
        refine lv_i2b hx hb dX0_lay_40 rfl ?_
        by_cases hin2 : vp_in p2 (pn a)
        · have hD0 := hD
          refine va_bast hx hb hK hP hD hS q0 0 hq0 rfl hin2 dX0_lay_41 (fun H locs hP hD hS => ?_)
          rw [z_poolset hD0 haL hpk hq0] at hP hD
          refine lv_goto (tgt := 73) hx hb dX0_lay_42 (by decide) ?_
          refine lv_iconst (v := (1 : Int32)) hx hb dX0_lay_73 (by decide) ?_
          have hq := hok hin2
          rw [hpk] at hq
          exact fin _ _ _ _ _ _ _ _ dX0_lay_74 (Nat.le_of_ble_eq_true rfl) (Nat.le_of_ble_eq_true rfl) hq hP hD hS
        · refine z_out (rest := []) (ty := .byte) (t0 := 0) hx hb hh (hl.1.trans hml.symm) (Nat.le_of_ble_eq_true rfl) (Nat.le_of_ble_eq_true rfl) (Nat.le_of_ble_eq_true rfl) (Nat.le_of_ble_eq_true rfl) hK hP hS hq0 rfl hlen hin2 (Or.inr (Or.inr (Or.inr (Or.inl ⟨rfl, _, rfl⟩)))) dX0_lay_41 (fun H1 x hP hS hc => ?_)
          obtain ⟨cell, hc1, hc2, hc3⟩ := hc
          have e1 : x1.catchType = 335 := by simp only [Prod.mk.injEq] at t1; exact t1.2.2.2
          have e2 : x2.handlerPc = 80 ∧ x2.catchType = 337 := by simp only [Prod.mk.injEq] at t2; exact ⟨t2.2.2.1, t2.2.2.2⟩
          refine z_caught (pc' := 80) (fun T hT hW => ?_) ?_
          · rw [htl, ← e2.1]
            refine zGo_pass (s := s) (C := "java/lang/NullPointerException") (CX := "java/lang/ArrayIndexOutOfBoundsException") hpl hW hown (by rw [e1]; exact hts _ q849) (z_cov t1 (Nat.le_of_ble_eq_true rfl) (Nat.le_of_ble_eq_true rfl)) (by rw [e1]; decide) (by rw [Stand.throwing_heap, hT]; exact hc1) hc2 hc3 (hh.2.2.2.1.2.2 ("java/lang/ArrayIndexOutOfBoundsException", "java/lang/NullPointerException") (by decide)) (fun vm1 hW1 => ?_)
            exact zGo_hit (s := s) (C := "java/lang/IndexOutOfBoundsException") (CX := "java/lang/ArrayIndexOutOfBoundsException") hpl hW1 hown (by rw [e2.2]; exact hts _ q874) (z_cov t2 (Nat.le_of_ble_eq_true rfl) (Nat.le_of_ble_eq_true rfl)) (by rw [e2.2]; decide) (by rw [Stand.throwing_heap, hT]; exact hc1) hc2 hc3 (zN_c hN 6 rfl)
          · refine lv_astore (lv' := [(5, .ref x), (4, .ref a), (0, .ref (ad 0)), (1, .int (nI j)), (2, .int p2), (3, .int p3)]) hx hb dX0_lay_80 hl (by decide) rfl (fun ls hl => ?_)
            refine lv_bipush (v := (-12 : Int32)) hx hb dX0_lay_82 (by decide) ?_
            exact fin pc _ _ _ _ _ _ _ dX0_lay_84 (Nat.le_of_ble_eq_true rfl) (Nat.le_of_ble_eq_true rfl) (hbad hin2) hP hD hS
      | 1 =>
        obtain ⟨⟨q0, hq0⟩, hcell⟩ := z_pool (s := s) hK hP haL hpk
        refine lv_astore (lv' := [(4, .ref a), (0, .ref (ad 0)), (1, .int (nI j)), (2, .int p2), (3, .int p3)]) hx hb dX0_lay_23 hl (by decide) rfl (fun ls hl => ?_)
        refine lv_aload hx hb dX0_lay_25 (lv_at hl 0 rfl) ?_
        refine va_instNo (C := "[S") (nm := "[B") hx hb hown (hts _ q893) (hh.2.2.2.1.2.2 ("[S", "[B") (by decide)) hcell dX0_lay_27 ?_
        refine lv_if_eq (tgt := 45) hx hb dX0_lay_30 (by decide) (fun _ => ?_) (fun c2 => absurd rfl c2)
        refine lv_aload hx hb dX0_lay_45 (lv_at hl 0 rfl) ?_
        refine z_inst (nm := "[S") hx hb hown (hts _ q894) hcell dX0_lay_47 ?_
        refine lv_if_eq (tgt := 65) hx hb dX0_lay_50 (by decide) (fun c2 => absurd c2 (by decide)) (fun _ => ?_)
        refine lv_aload hx hb dX0_lay_53 (lv_at hl 0 rfl) ?_
        refine z_castT (nm := "[S") hx hb hown (hts _ q894) hcell dX0_lay_55 ?_
        refine lv_iload_n hx hb dX0_lay_58 rfl (lv_at hl 3 rfl) ?_
        refine lv_iload_n hx hb dX0_lay_59 rfl (lv_at hl 4 rfl) ?_
        refine lv_i2s hx hb dX0_lay_60 rfl ?_
        by_cases hin2 : vp_in p2 (pn a)
        · have hD0 := hD
          refine va_sast hx hb hK hP hD hS q0 3 hq0 rfl hin2 dX0_lay_61 (fun H locs hP hD hS => ?_)
          rw [z_poolset hD0 haL hpk hq0] at hP hD
          refine lv_goto (tgt := 73) hx hb dX0_lay_62 (by decide) ?_
          refine lv_iconst (v := (1 : Int32)) hx hb dX0_lay_73 (by decide) ?_
          have hq := hok hin2
          rw [hpk] at hq
          exact fin _ _ _ _ _ _ _ _ dX0_lay_74 (Nat.le_of_ble_eq_true rfl) (Nat.le_of_ble_eq_true rfl) hq hP hD hS
        · refine z_out (rest := []) (ty := .short) (t0 := 3) hx hb hh (hl.1.trans hml.symm) (Nat.le_of_ble_eq_true rfl) (Nat.le_of_ble_eq_true rfl) (Nat.le_of_ble_eq_true rfl) (Nat.le_of_ble_eq_true rfl) hK hP hS hq0 rfl hlen hin2 (Or.inr (Or.inr (Or.inr (Or.inr (Or.inl ⟨rfl, _, rfl⟩))))) dX0_lay_61 (fun H1 x hP hS hc => ?_)
          obtain ⟨cell, hc1, hc2, hc3⟩ := hc
          have e1 : x1.catchType = 335 := by simp only [Prod.mk.injEq] at t1; exact t1.2.2.2
          have e2 : x2.handlerPc = 80 ∧ x2.catchType = 337 := by simp only [Prod.mk.injEq] at t2; exact ⟨t2.2.2.1, t2.2.2.2⟩
          refine z_caught (pc' := 80) (fun T hT hW => ?_) ?_
          · rw [htl, ← e2.1]
            refine zGo_pass (s := s) (C := "java/lang/NullPointerException") (CX := "java/lang/ArrayIndexOutOfBoundsException") hpl hW hown (by rw [e1]; exact hts _ q849) (z_cov t1 (Nat.le_of_ble_eq_true rfl) (Nat.le_of_ble_eq_true rfl)) (by rw [e1]; decide) (by rw [Stand.throwing_heap, hT]; exact hc1) hc2 hc3 (hh.2.2.2.1.2.2 ("java/lang/ArrayIndexOutOfBoundsException", "java/lang/NullPointerException") (by decide)) (fun vm1 hW1 => ?_)
            exact zGo_hit (s := s) (C := "java/lang/IndexOutOfBoundsException") (CX := "java/lang/ArrayIndexOutOfBoundsException") hpl hW1 hown (by rw [e2.2]; exact hts _ q874) (z_cov t2 (Nat.le_of_ble_eq_true rfl) (Nat.le_of_ble_eq_true rfl)) (by rw [e2.2]; decide) (by rw [Stand.throwing_heap, hT]; exact hc1) hc2 hc3 (zN_c hN 6 rfl)
          · refine lv_astore (lv' := [(5, .ref x), (4, .ref a), (0, .ref (ad 0)), (1, .int (nI j)), (2, .int p2), (3, .int p3)]) hx hb dX0_lay_80 hl (by decide) rfl (fun ls hl => ?_)
            refine lv_bipush (v := (-12 : Int32)) hx hb dX0_lay_82 (by decide) ?_
            exact fin pc _ _ _ _ _ _ _ dX0_lay_84 (Nat.le_of_ble_eq_true rfl) (Nat.le_of_ble_eq_true rfl) (hbad hin2) hP hD hS
      | n + 2 =>
        obtain ⟨⟨q0, hq0⟩, hcell⟩ := z_pool (s := s) hK hP haL hpk
        refine lv_astore (lv' := [(4, .ref a), (0, .ref (ad 0)), (1, .int (nI j)), (2, .int p2), (3, .int p3)]) hx hb dX0_lay_23 hl (by decide) rfl (fun ls hl => ?_)
        refine lv_aload hx hb dX0_lay_25 (lv_at hl 0 rfl) ?_
        refine va_instNo (C := "[I") (nm := "[B") hx hb hown (hts _ q893) (hh.2.2.2.1.2.2 ("[I", "[B") (by decide)) hcell dX0_lay_27 ?_
        refine lv_if_eq (tgt := 45) hx hb dX0_lay_30 (by decide) (fun _ => ?_) (fun c2 => absurd rfl c2)
        refine lv_aload hx hb dX0_lay_45 (lv_at hl 0 rfl) ?_
        refine va_instNo (C := "[I") (nm := "[S") hx hb hown (hts _ q894) (hh.2.2.2.1.2.2 ("[I", "[S") (by decide)) hcell dX0_lay_47 ?_
        refine lv_if_eq (tgt := 65) hx hb dX0_lay_50 (by decide) (fun _ => ?_) (fun c2 => absurd rfl c2)
        refine lv_aload hx hb dX0_lay_65 (lv_at hl 0 rfl) ?_
        refine z_castT (nm := "[I") hx hb hown (hts _ q895) hcell dX0_lay_67 ?_
        refine lv_iload_n hx hb dX0_lay_70 rfl (lv_at hl 3 rfl) ?_
        refine lv_iload_n hx hb dX0_lay_71 rfl (lv_at hl 4 rfl) ?_
        by_cases hin2 : vp_in p2 (pn a)
        · have hD0 := hD
          refine va_iast hx hb hK hP hD hS q0 1 hq0 rfl hin2 dX0_lay_72 (fun H locs hP hD hS => ?_)
          rw [z_poolset hD0 haL hpk hq0] at hP hD
          refine lv_iconst (v := (1 : Int32)) hx hb dX0_lay_73 (by decide) ?_
          have hq := hok hin2
          rw [hpk] at hq
          exact fin _ _ _ _ _ _ _ _ dX0_lay_74 (Nat.le_of_ble_eq_true rfl) (Nat.le_of_ble_eq_true rfl) hq hP hD hS
        · refine z_out (rest := []) (ty := .int) (t0 := 1) hx hb hh (hl.1.trans hml.symm) (Nat.le_of_ble_eq_true rfl) (Nat.le_of_ble_eq_true rfl) (Nat.le_of_ble_eq_true rfl) (Nat.le_of_ble_eq_true rfl) hK hP hS hq0 rfl hlen hin2 (Or.inr (Or.inr (Or.inr (Or.inr (Or.inr ⟨rfl, _, rfl⟩))))) dX0_lay_72 (fun H1 x hP hS hc => ?_)
          obtain ⟨cell, hc1, hc2, hc3⟩ := hc
          have e1 : x1.catchType = 335 := by simp only [Prod.mk.injEq] at t1; exact t1.2.2.2
          have e2 : x2.handlerPc = 80 ∧ x2.catchType = 337 := by simp only [Prod.mk.injEq] at t2; exact ⟨t2.2.2.1, t2.2.2.2⟩
          refine z_caught (pc' := 80) (fun T hT hW => ?_) ?_
          · rw [htl, ← e2.1]
            refine zGo_pass (s := s) (C := "java/lang/NullPointerException") (CX := "java/lang/ArrayIndexOutOfBoundsException") hpl hW hown (by rw [e1]; exact hts _ q849) (z_cov t1 (Nat.le_of_ble_eq_true rfl) (Nat.le_of_ble_eq_true rfl)) (by rw [e1]; decide) (by rw [Stand.throwing_heap, hT]; exact hc1) hc2 hc3 (hh.2.2.2.1.2.2 ("java/lang/ArrayIndexOutOfBoundsException", "java/lang/NullPointerException") (by decide)) (fun vm1 hW1 => ?_)
            exact zGo_hit (s := s) (C := "java/lang/IndexOutOfBoundsException") (CX := "java/lang/ArrayIndexOutOfBoundsException") hpl hW1 hown (by rw [e2.2]; exact hts _ q874) (z_cov t2 (Nat.le_of_ble_eq_true rfl) (Nat.le_of_ble_eq_true rfl)) (by rw [e2.2]; decide) (by rw [Stand.throwing_heap, hT]; exact hc1) hc2 hc3 (zN_c hN 6 rfl)
          · refine lv_astore (lv' := [(5, .ref x), (4, .ref a), (0, .ref (ad 0)), (1, .int (nI j)), (2, .int p2), (3, .int p3)]) hx hb dX0_lay_80 hl (by decide) rfl (fun ls hl => ?_)
            refine lv_bipush (v := (-12 : Int32)) hx hb dX0_lay_82 (by decide) ?_
            exact fin pc _ _ _ _ _ _ _ dX0_lay_84 (Nat.le_of_ble_eq_true rfl) (Nat.le_of_ble_eq_true rfl) (hbad hin2) hP hD hS
  · have h := h.1 c1
    refine lv_iconst (v := (-1 : Int32)) hx hb dX0_lay_12 (by decide) ?_
    exact fin pc _ _ _ _ _ _ _ dX0_lay_13 (Nat.le_of_ble_eq_true rfl) (Nat.le_of_ble_eq_true rfl) h hP hD hS
