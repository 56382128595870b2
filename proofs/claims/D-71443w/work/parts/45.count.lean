/-! SHEETS 6: count -/
set_option maxRecDepth 100000
theorem pdJ13_bitCount : yJ13_bitCount.cls = "java/lang/Integer" ∧ yJ13_bitCount.cls ≠ "java/lang/invoke/MethodHandle" ∧ yJ13_bitCount.cls ≠ "java/lang/invoke/VarHandle" ∧ (parseMethodDescriptor yJ13_bitCount.desc).map (fun d => d.parameters.length) = some 1 := by decide +kernel
theorem peJ13_bitCount : yJ13_bitCount.name ≠ "<init>" ∧ (parseMethodDescriptor yJ13_bitCount.desc).map (fun d => d.parameters.length) = some 1 := by decide +kernel
def wpJ13_bitCount (p1 : Int32) (Q : Int32 → Prop) : Prop :=
  (∀ x0_1 : Int32, x0_1 = (p1 - ((p1.toUInt32 >>> ((1 : Int32).toUInt32 &&& Int32.toUInt32 31)).toInt32 &&& (1431655765 : Int32))) → (∀ x0_2 : Int32, x0_2 = ((x0_1 &&& (858993459 : Int32)) + ((x0_1.toUInt32 >>> ((2 : Int32).toUInt32 &&& Int32.toUInt32 31)).toInt32 &&& (858993459 : Int32))) → (∀ x0_3 : Int32, x0_3 = ((x0_2 + (x0_2.toUInt32 >>> ((4 : Int32).toUInt32 &&& Int32.toUInt32 31)).toInt32) &&& (252645135 : Int32)) → (∀ x0_4 : Int32, x0_4 = (x0_3 + (x0_3.toUInt32 >>> ((8 : Int32).toUInt32 &&& Int32.toUInt32 31)).toInt32) → (∀ x0_5 : Int32, x0_5 = (x0_4 + (x0_4.toUInt32 >>> ((16 : Int32).toUInt32 &&& Int32.toUInt32 31)).toInt32) → Q (x0_5 &&& (63 : Int32)))))))
set_option maxHeartbeats 4000000 in
theorem metJ13_bitCount (l : Launch) (D : va_G) (kk : Nat → ClassId) (sz : Nat) (p1 : Int32) (Q : Int32 → Prop) (h : wpJ13_bitCount p1 Q) : Met l yJ13_bitCount (ws_ yJ13_bitCount cJ13_bitCount 1 (some .int)) { frames := 0, cells := 0, slots := 0, locals := 0 } (va_Pc ([.int p1] : List Value) (zPc D kk [] sz)) (va_Qi (fun (r : Int32) (u : Unit) => Q r ) (zB D (va_A [] sz) (fun u : Unit => [])) (va_A [] sz)) 0 0 (va_A [] sz) := by
  refine zMet (Qc := fun A => va_Qi (fun (r : Int32) (u : Unit) => Q r ) (zB D A (fun u : Unit => [])) A) (by decide) (Nat.le_of_ble_eq_true rfl) ?_
  intro p e s m below meth c A X hP hD hS ls hl
  obtain ⟨hx, hb, hr, hml, hown, hts, hlk, hnm, hK, hN, hA⟩ := X
  have hown : s.vm.findClass "java/lang/Integer" = some m.cls := hown
  have hl : lv_has ls 1 [(0, .int p1)] := hl
  unfold wpJ13_bitCount at h
  refine lv_iload_n hx hb dJ13_bitCount_0 rfl (lv_at hl 0 rfl) ?_
  refine lv_iload_n hx hb dJ13_bitCount_1 rfl (lv_at hl 0 rfl) ?_
  refine lv_iconst (v := (1 : Int32)) hx hb dJ13_bitCount_2 (by decide) ?_
  refine lv_iushr hx hb dJ13_bitCount_3 rfl ?_
  refine lv_ldc_w (v := (1431655765 : Int32)) hx hb hown (hts _ q930) dJ13_bitCount_4 ?_
  refine lv_iand hx hb dJ13_bitCount_7 ?_
  refine lv_isub hx hb dJ13_bitCount_8 ?_
  refine lv_topi (fun x0_1 ex0_1 => ?_)
  have h := h x0_1 ex0_1
  refine lv_istore_n (lv' := [(0, .int x0_1)]) hx hb dJ13_bitCount_9 rfl hl (by decide) rfl (fun ls hl => ?_)
  refine lv_iload_n hx hb dJ13_bitCount_10 rfl (lv_at hl 0 rfl) ?_
  refine lv_ldc_w (v := (858993459 : Int32)) hx hb hown (hts _ q931) dJ13_bitCount_11 ?_
  refine lv_iand hx hb dJ13_bitCount_14 ?_
  refine lv_iload_n hx hb dJ13_bitCount_15 rfl (lv_at hl 0 rfl) ?_
  refine lv_iconst (v := (2 : Int32)) hx hb dJ13_bitCount_16 (by decide) ?_
  refine lv_iushr hx hb dJ13_bitCount_17 rfl ?_
  refine lv_ldc_w (v := (858993459 : Int32)) hx hb hown (hts _ q931) dJ13_bitCount_18 ?_
  refine lv_iand hx hb dJ13_bitCount_21 ?_
  refine lv_iadd hx hb dJ13_bitCount_22 ?_
  refine lv_topi (fun x0_2 ex0_2 => ?_)
  have h := h x0_2 ex0_2
  refine lv_istore_n (lv' := [(0, .int x0_2)]) hx hb dJ13_bitCount_23 rfl hl (by decide) rfl (fun ls hl => ?_)
  refine lv_iload_n hx hb dJ13_bitCount_24 rfl (lv_at hl 0 rfl) ?_
  refine lv_iload_n hx hb dJ13_bitCount_25 rfl (lv_at hl 0 rfl) ?_
  refine lv_iconst (v := (4 : Int32)) hx hb dJ13_bitCount_26 (by decide) ?_
  refine lv_iushr hx hb dJ13_bitCount_27 rfl ?_
  refine lv_iadd hx hb dJ13_bitCount_28 ?_
  refine lv_ldc_w (v := (252645135 : Int32)) hx hb hown (hts _ q932) dJ13_bitCount_29 ?_
  refine lv_iand hx hb dJ13_bitCount_32 ?_
  refine lv_topi (fun x0_3 ex0_3 => ?_)
  have h := h x0_3 ex0_3
  refine lv_istore_n (lv' := [(0, .int x0_3)]) hx hb dJ13_bitCount_33 rfl hl (by decide) rfl (fun ls hl => ?_)
  refine lv_iload_n hx hb dJ13_bitCount_34 rfl (lv_at hl 0 rfl) ?_
  refine lv_iload_n hx hb dJ13_bitCount_35 rfl (lv_at hl 0 rfl) ?_
  refine lv_bipush (v := (8 : Int32)) hx hb dJ13_bitCount_36 (by decide) ?_
  refine lv_iushr hx hb dJ13_bitCount_38 rfl ?_
  refine lv_iadd hx hb dJ13_bitCount_39 ?_
  refine lv_topi (fun x0_4 ex0_4 => ?_)
  have h := h x0_4 ex0_4
  refine lv_istore_n (lv' := [(0, .int x0_4)]) hx hb dJ13_bitCount_40 rfl hl (by decide) rfl (fun ls hl => ?_)
  refine lv_iload_n hx hb dJ13_bitCount_41 rfl (lv_at hl 0 rfl) ?_
  refine lv_iload_n hx hb dJ13_bitCount_42 rfl (lv_at hl 0 rfl) ?_
  refine lv_bipush (v := (16 : Int32)) hx hb dJ13_bitCount_43 (by decide) ?_
  refine lv_iushr hx hb dJ13_bitCount_45 rfl ?_
  refine lv_iadd hx hb dJ13_bitCount_46 ?_
  refine lv_topi (fun x0_5 ex0_5 => ?_)
  have h := h x0_5 ex0_5
  refine lv_istore_n (lv' := [(0, .int x0_5)]) hx hb dJ13_bitCount_47 rfl hl (by decide) rfl (fun ls hl => ?_)
  refine lv_iload_n hx hb dJ13_bitCount_48 rfl (lv_at hl 0 rfl) ?_
  refine lv_bipush (v := (63 : Int32)) hx hb dJ13_bitCount_49 (by decide) ?_
  refine lv_iand hx hb dJ13_bitCount_51 ?_
  exact zr_i hx hb hr hlk rfl hP hD hS () [] rfl (by decide) dJ13_bitCount_52 h
abbrev zCX (kk : Nat → ClassId) (ad : Nat → Nat) (g : Nat → Int64) (sr : Nat → Option Nat) (f fln twn fxn : Nat → Int32) : va_W := [zO ad f g, zQ (kk 6) (ad 25) 4 (zSf ad), zS (ad 26) (sr 0), zS (ad 27) (sr 1), zS (ad 28) (sr 2), zS (ad 29) (sr 3), zL (ad 6) (ad 7) (ad 8) fln, zA (kk 0) (ad 7) 20 twn, zA (kk 0) (ad 8) 20 fxn]
def wpX0_count (sr : Nat → Option Nat) (L : List Nat) (pk pn : Nat → Nat) (f fln twn : Nat → Int32) (p1 : Int32) (Q : Int32 → Prop) : Prop :=
  (∀ a, sr 0 = some a → a ∈ L ∧ pk a ≤ 2) ∧ (p1 = 0 → Q (f 6)) ∧ (¬ p1 = 0 → (p1 = 1 → wpJ13_bitCount (f 4) (fun r => Q r)) ∧ (¬ p1 = 1 → (p1 = 2 → Q (f 12)) ∧ (¬ p1 = 2 → (p1 = 3 → (sr 0 = none → Q (-4 : Int32)) ∧ (∀ a, sr 0 = some a → Q (nI (pn a)))) ∧ (¬ p1 = 3 → (p1 = 4 → wpX5_sumOf fln twn (1 : Int32) (fun r => Q r)) ∧ (¬ p1 = 4 → (p1 = 5 → wpX5_sumOf fln twn (2 : Int32) (fun r => Q r)) ∧ (¬ p1 = 5 → Q (-1 : Int32)))))))
set_option maxHeartbeats 4000000 in
theorem metX0_count (l : Launch) (htr : l.stackTraces = false) (D : va_G) (kk : Nat → ClassId) (ad : Nat → Nat) (sz : Nat) (g : Nat → Int64) (sr : Nat → Option Nat) (L : List Nat) (pk pn : Nat → Nat) (pc : Nat → Nat → Int32) (f fln twn fxn : Nat → Int32) (p1 : Int32) (Q : Int32 → Prop) (h : wpX0_count sr L pk pn f fln twn p1 Q) :
    MetX l yX0_count (Cond.code yX0_count cX0_count 4 (some .int) :: lw_all) { frames := 4, cells := 0, slots := 0, locals := 200 } (va_Pc ([.ref (ad 0), .int p1] : List Value) (zPX D kk (zCX kk ad g sr f fln twn fxn ++ va_pl L (zPf kk pk pn pc)) sz))
      (zQX (fun r : Int32 => some (.int r)) (fun (r : Int32) (_ : Unit) => Q r) (zB D (va_A (zCX kk ad g sr f fln twn fxn ++ va_pl L (zPf kk pk pn pc)) sz) (fun _ : Unit => (zCX kk ad g sr f fln twn fxn ++ va_pl L (zPf kk pk pn pc)))) (fun _ : Unit => False) (zBT D (va_A (zCX kk ad g sr f fln twn fxn ++ va_pl L (zPf kk pk pn pc)) sz) (fun _ _ => []) (fun _ => "")) (va_A (zCX kk ad g sr f fln twn fxn ++ va_pl L (zPf kk pk pn pc)) sz)) 0 0 (va_A (zCX kk ad g sr f fln twn fxn ++ va_pl L (zPf kk pk pn pc)) sz) := by
  refine zMetP (Qc := fun A => zQX (fun r : Int32 => some (.int r)) (fun (r : Int32) (_ : Unit) => Q r) (zB D A (fun _ : Unit => (zCX kk ad g sr f fln twn fxn ++ va_pl L (zPf kk pk pn pc)))) (fun _ : Unit => False) (zBT D A (fun _ _ => []) (fun _ => "")) A) htr (by decide) (Or.inl ⟨rfl, rfl⟩) (Nat.le_of_ble_eq_true rfl) ?_
  intro p e s m below meth c A X hh htab had hP hD hS ls hl
  obtain ⟨hx, hb, hr, hml, hown, hts, hlk, hnm, hK, hN, hA⟩ := X
  have hown : s.vm.findClass "LoseLeague" = some m.cls := hown
  have hl : lv_has ls 4 [(0, .ref (ad 0)), (1, .int p1)] := hl
  unfold wpX0_count at h
  obtain ⟨hL, h⟩ := h
  have fin : ∀ (v : Int32) (pcc : Nat) (H : Heap) (locs : List Loc) (ls : Array Slot), decode cX0_count pcc = .ok (.ireturn, 1) → Q v → va_P D vwCl (zCX kk ad g sr f fln twn fxn ++ va_pl L (zPf kk pk pn pc)) H → va_D A (zCX kk ad g sr f fln twn fxn ++ va_pl L (zPf kk pk pn pc)) → va_S A s.heap H locs → W p l e { frames := 4, cells := 0, slots := 0, locals := 200 } s m ([.ref (ad 0), .int p1] : List Value).toArray below meth c H locs 0 0 (MT below (zQX (fun r : Int32 => some (.int r)) (fun (r : Int32) (_ : Unit) => Q r) (zB D A (fun _ : Unit => (zCX kk ad g sr f fln twn fxn ++ va_pl L (zPf kk pk pn pc)))) (fun _ : Unit => False) (zBT D A (fun _ _ => []) (fun _ => "")) A) ([.ref (ad 0), .int p1] : List Value).toArray s 0 0 A) (F0 m pcc ls [.int v]) := by
    intro v pcc H locs ls hd hq hP hD hS
    refine W.mono (MQ_MT (Qc := va_Qi (fun (r : Int32) (_ : Unit) => Q r) (zB D A (fun _ : Unit => (zCX kk ad g sr f fln twn fxn ++ va_pl L (zPf kk pk pn pc)))) A) fun o t hq => ?_) ?_
    · obtain ⟨⟨r, u, h1, h2, h3⟩, h4⟩ := hq
      exact ⟨Or.inl ⟨r, u, h1, h2, h3⟩, h4⟩
    · exact W.zret (v := v) hx hb hr rfl (fun t ht hW => ⟨⟨v, (), rfl, hq, by rw [ht]; exact hP, hD⟩, hS.F ht⟩) hS.2.2 hd
  have sw : ∀ (z : Int32) (ls : Array Slot), lv_has ls 4 [(0, .ref (ad 0)), (1, .int p1)] → (p1 = 3 → Q z) → W p l e { frames := 4, cells := 0, slots := 0, locals := 200 } s m ([.ref (ad 0), .int p1] : List Value).toArray below meth c s.heap [] 0 0 (MT below (zQX (fun r : Int32 => some (.int r)) (fun (r : Int32) (_ : Unit) => Q r) (zB D A (fun _ : Unit => (zCX kk ad g sr f fln twn fxn ++ va_pl L (zPf kk pk pn pc)))) (fun _ : Unit => False) (zBT D A (fun _ _ => []) (fun _ => "")) A) ([.ref (ad 0), .int p1] : List Value).toArray s 0 0 A) (F0 m 57 ls [.int z]) := by
    intro z ls hl hz
    refine lv_istore_n (lv' := [(3, .int z), (0, .ref (ad 0)), (1, .int p1)]) hx hb dX0_count_57 rfl hl (by decide) rfl (fun ls hl => ?_)
    refine lv_iload_n hx hb dX0_count_58 rfl (lv_at hl 2 rfl) ?_
    have h := h
    by_cases c0 : p1 = 0
    · have h := h.1 c0
      refine lv_tableIn (tgt := 96) hx hb dX0_count_59 (by rw [c0]; decide) (by rw [c0]; decide) (by rw [c0]; rfl) (by decide) ?_
      refine lv_aload_n hx hb dX0_count_96 rfl (lv_at hl 1 rfl) ?_
      refine va_get (D := D) (ci := 0) (v := .int (f 6)) (C := RX0) (T := TX0) (N := 25) hx hb hts in_X0 hown hK hP 0 rfl rfl 6 (Nat.le_of_ble_eq_true rfl) (hts _ q178) (fun _ h9 => h9) rfl dX0_count_97 ?_
      exact fin _ _ _ _ _ dX0_count_100 h hP hD hS
    have h := h.2 c0
    have n0 : ¬ p1.toInt = 0 := lv_neT c0 rfl
    by_cases c1 : p1 = 1
    · have h := h.1 c1
      refine lv_tableIn (tgt := 101) hx hb dX0_count_59 (by rw [c1]; decide) (by rw [c1]; decide) (by rw [c1]; rfl) (by decide) ?_
      refine lv_aload_n hx hb dX0_count_101 rfl (lv_at hl 1 rfl) ?_
      refine va_get (D := D) (ci := 0) (v := .int (f 4)) (C := RX0) (T := TX0) (N := 25) hx hb hts in_X0 hown hK hP 0 rfl rfl 4 (Nat.le_of_ble_eq_true rfl) (hts _ q176) (fun _ h9 => h9) rfl dX0_count_102 ?_
      refine zq_i (X := zCX kk ad g sr f fln twn fxn) (wc := []) (wr := zCX kk ad g sr f fln twn fxn) (w1 := fun _ : Unit => []) (rest := []) [] [0, 1, 2, 3, 4, 5, 6, 7, 8] rfl rfl (by decide) (by decide) (by decide) hA hP hD hS (fun hP hD => va_runS (As := [.int (f 4)]) (rest := []) ⟨hx, hb, hml, hown, hts⟩ (metJ13_bitCount l D kk _ (f 4) _ h) (va_cwS 1 hts (lw_S q927 q928 q88 q929) rfl rfl rfl pdJ13_bitCount.2 ⟨(Nat.le_of_ble_eq_true rfl), (Nat.le_of_ble_eq_true rfl)⟩) (zp_S hK hN hP hD) rfl rfl hl.1 rfl (lv_room (Nat.le_of_ble_eq_true rfl)) dX0_count_105 ⟨(Nat.le_of_ble_eq_true rfl), (Nat.le_of_ble_eq_true rfl)⟩) (fun r u H locs h hP hD hS => ?_)
      exact fin r _ H locs _ dX0_count_108 h hP hD hS
    have h := h.2 c1
    have n1 : ¬ p1.toInt = 1 := lv_neT c1 rfl
    by_cases c2 : p1 = 2
    · have h := h.1 c2
      refine lv_tableIn (tgt := 109) hx hb dX0_count_59 (by rw [c2]; decide) (by rw [c2]; decide) (by rw [c2]; rfl) (by decide) ?_
      refine lv_aload_n hx hb dX0_count_109 rfl (lv_at hl 1 rfl) ?_
      refine va_get (D := D) (ci := 0) (v := .int (f 12)) (C := RX0) (T := TX0) (N := 25) hx hb hts in_X0 hown hK hP 0 rfl rfl 12 (Nat.le_of_ble_eq_true rfl) (hts _ q185) (fun _ h9 => h9) rfl dX0_count_110 ?_
      exact fin _ _ _ _ _ dX0_count_113 h hP hD hS
    have h := h.2 c2
    have n2 : ¬ p1.toInt = 2 := lv_neT c2 rfl
    by_cases c3 : p1 = 3
    · have h := h.1 c3
      refine lv_tableIn (tgt := 114) hx hb dX0_count_59 (by rw [c3]; decide) (by rw [c3]; decide) (by rw [c3]; rfl) (by decide) ?_
      refine lv_iload_n hx hb dX0_count_114 rfl (lv_at hl 0 rfl) ?_
      exact fin z _ _ _ _ dX0_count_115 (hz c3) hP hD hS
    have h := h.2 c3
    have n3 : ¬ p1.toInt = 3 := lv_neT c3 rfl
    by_cases c4 : p1 = 4
    · have h := h.1 c4
      refine lv_tableIn (tgt := 116) hx hb dX0_count_59 (by rw [c4]; decide) (by rw [c4]; decide) (by rw [c4]; rfl) (by decide) ?_
      refine lv_aload_n hx hb dX0_count_116 rfl (lv_at hl 1 rfl) ?_
      refine va_get (D := D) (ci := 0) (v := .ref (ad 6)) (C := RX0) (T := TX0) (N := 25) hx hb hts in_X0 hown hK hP 0 rfl rfl 1 (Nat.le_of_ble_eq_true rfl) (hts _ q173) (fun _ h9 => h9) rfl dX0_count_117 ?_
      refine lv_iconst (v := (1 : Int32)) hx hb dX0_count_120 (by decide) ?_
      have hrc := va_recv hK hP (ci := 5) (q0 := 6) rfl rfl
      refine zq_i (X := zCX kk ad g sr f fln twn fxn) (wc := [zL (ad 6) (ad 7) (ad 8) fln, zA (kk 0) (ad 7) 20 twn, zA (kk 0) (ad 8) 20 fxn]) (wr := [zO ad f g, zQ (kk 6) (ad 25) 4 (zSf ad), zS (ad 26) (sr 0), zS (ad 27) (sr 1), zS (ad 28) (sr 2), zS (ad 29) (sr 3)]) (w1 := fun _ : Unit => [zL (ad 6) (ad 7) (ad 8) fln, zA (kk 0) (ad 7) 20 twn, zA (kk 0) (ad 8) 20 fxn]) (rest := []) [6, 7, 8] [0, 1, 2, 3, 4, 5] rfl rfl (by decide) (by decide) (by decide) hA hP hD hS (fun hP hD => va_runV (As := [.int (1 : Int32)]) (rest := []) ⟨hx, hb, hml, hown, hts⟩ (metX5_sumOf l D kk (ad 6) (ad 7) (ad 8) _ fln twn fxn (1 : Int32) _ h) (cwV 1 hts (lw_V q516 q517 q518 q69 q519) rfl rfl rfl pdX5_sumOf ⟨(Nat.le_of_ble_eq_true rfl), (Nat.le_of_ble_eq_true rfl)⟩) (zp_V hK hN hrc hP hD) rfl rfl hl.1 rfl (lv_room (Nat.le_of_ble_eq_true rfl)) dX0_count_121 ⟨(Nat.le_of_ble_eq_true rfl), (Nat.le_of_ble_eq_true rfl)⟩) (fun r u H locs h hP hD hS => ?_)
      exact fin r _ H locs _ dX0_count_124 h hP hD hS
    have h := h.2 c4
    have n4 : ¬ p1.toInt = 4 := lv_neT c4 rfl
    by_cases c5 : p1 = 5
    · have h := h.1 c5
      refine lv_tableIn (tgt := 125) hx hb dX0_count_59 (by rw [c5]; decide) (by rw [c5]; decide) (by rw [c5]; rfl) (by decide) ?_
      refine lv_aload_n hx hb dX0_count_125 rfl (lv_at hl 1 rfl) ?_
      refine va_get (D := D) (ci := 0) (v := .ref (ad 6)) (C := RX0) (T := TX0) (N := 25) hx hb hts in_X0 hown hK hP 0 rfl rfl 1 (Nat.le_of_ble_eq_true rfl) (hts _ q173) (fun _ h9 => h9) rfl dX0_count_126 ?_
      refine lv_iconst (v := (2 : Int32)) hx hb dX0_count_129 (by decide) ?_
      have hrc := va_recv hK hP (ci := 5) (q0 := 6) rfl rfl
      refine zq_i (X := zCX kk ad g sr f fln twn fxn) (wc := [zL (ad 6) (ad 7) (ad 8) fln, zA (kk 0) (ad 7) 20 twn, zA (kk 0) (ad 8) 20 fxn]) (wr := [zO ad f g, zQ (kk 6) (ad 25) 4 (zSf ad), zS (ad 26) (sr 0), zS (ad 27) (sr 1), zS (ad 28) (sr 2), zS (ad 29) (sr 3)]) (w1 := fun _ : Unit => [zL (ad 6) (ad 7) (ad 8) fln, zA (kk 0) (ad 7) 20 twn, zA (kk 0) (ad 8) 20 fxn]) (rest := []) [6, 7, 8] [0, 1, 2, 3, 4, 5] rfl rfl (by decide) (by decide) (by decide) hA hP hD hS (fun hP hD => va_runV (As := [.int (2 : Int32)]) (rest := []) ⟨hx, hb, hml, hown, hts⟩ (metX5_sumOf l D kk (ad 6) (ad 7) (ad 8) _ fln twn fxn (2 : Int32) _ h) (cwV 1 hts (lw_V q516 q517 q518 q69 q519) rfl rfl rfl pdX5_sumOf ⟨(Nat.le_of_ble_eq_true rfl), (Nat.le_of_ble_eq_true rfl)⟩) (zp_V hK hN hrc hP hD) rfl rfl hl.1 rfl (lv_room (Nat.le_of_ble_eq_true rfl)) dX0_count_130 ⟨(Nat.le_of_ble_eq_true rfl), (Nat.le_of_ble_eq_true rfl)⟩) (fun r u H locs h hP hD hS => ?_)
      exact fin r _ H locs _ dX0_count_133 h hP hD hS
    have h := h.2 c5
    have n5 : ¬ p1.toInt = 5 := lv_neT c5 rfl
    refine lv_tableOut (tgt := 134) hx hb dX0_count_59 (by omega) (by decide) ?_
    refine lv_iconst (v := (-1 : Int32)) hx hb dX0_count_134 (by decide) ?_
    exact fin _ _ _ _ _ dX0_count_135 h hP hD hS
  refine lv_aload_n hx hb dX0_count_0 rfl (lv_at hl 0 rfl) ?_
  refine va_get (D := D) (ci := 0) (v := .ref (ad 25)) (C := RX0) (T := TX0) (N := 25) hx hb hts in_X0 hown hK hP 0 rfl rfl 23 (Nat.le_of_ble_eq_true rfl) (hts _ q196) (fun _ h9 => h9) rfl dX0_count_1 ?_
  refine lv_iconst (v := (0 : Int32)) hx hb dX0_count_4 (by decide) ?_
  refine va_aldq hx hb hK hP 1 6 rfl rfl (by unfold vp_in; decide) dX0_count_5 ?_
  rw [show va_rf (zSf ad ((0 : Int32)).toNatClampNeg) = .ref (ad 26) from rfl]
  refine va_getN (D := D) (ci := 6) (v := va_rf (sr 0)) (C := RX6) (T := TX6) (N := 1) hx hb hts in_X6 hown hK hP 2 rfl rfl 0 (Nat.le_of_ble_eq_true rfl) (zN_f hN 7 rfl rfl) (fun _ h9 => h9) rfl dX0_count_6 ?_
  have h3 : p1 = 3 → (sr 0 = none → Q (-4 : Int32)) ∧ (∀ a, sr 0 = some a → Q (nI (pn a))) := fun c3 => (((h.2 (by rw [c3]; decide)).2 (by rw [c3]; decide)).2 (by rw [c3]; decide)).1 c3
  cases ho : sr 0 with
  | none =>
    show W _ _ _ _ _ _ _ _ _ _ _ _ _ _ _ (F0 m (6 + 3) ls [.null])
    refine lv_astore_nN (lv' := [(2, .null), (0, .ref (ad 0)), (1, .int p1)]) hx hb dX0_count_9 rfl hl (by decide) rfl (fun ls hl => ?_)
    refine lv_aload_nN hx hb dX0_count_10 rfl (lv_at hl 0 rfl) ?_
    refine lv_instN hx hb dX0_count_11 ?_
    refine lv_if_eq (tgt := 25) hx hb dX0_count_14 (by decide) (fun _ => ?_) (fun c2 => absurd rfl c2)
    refine lv_aload_nN hx hb dX0_count_25 rfl (lv_at hl 0 rfl) ?_
    refine lv_instN hx hb dX0_count_26 ?_
    refine lv_if_eq (tgt := 40) hx hb dX0_count_29 (by decide) (fun _ => ?_) (fun c2 => absurd rfl c2)
    refine lv_aload_nN hx hb dX0_count_40 rfl (lv_at hl 0 rfl) ?_
    refine lv_instN hx hb dX0_count_41 ?_
    refine lv_if_eq (tgt := 55) hx hb dX0_count_44 (by decide) (fun _ => ?_) (fun c2 => absurd rfl c2)
    refine lv_bipush (v := (-4 : Int32)) hx hb dX0_count_55 (by decide) ?_
    exact sw _ _ (lv_sub hl [1, 2] rfl) (fun c3 => (h3 c3).1 ho)
  | some a =>
    obtain ⟨haL, hk2⟩ := hL a ho
    have h3 : p1 = 3 → Q (nI (pn a)) := fun c3 => (h3 c3).2 a ho
    show W _ _ _ _ _ _ _ _ _ _ _ _ _ _ _ (F0 m (6 + 3) ls [.ref a])
    refine lv_astore_n (lv' := [(2, .ref a), (0, .ref (ad 0)), (1, .int p1)]) hx hb dX0_count_9 rfl hl (by decide) rfl (fun ls hl => ?_)
    refine lv_aload_n hx hb dX0_count_10 rfl (lv_at hl 0 rfl) ?_
    match hpk : pk a with
    | 0 =>
      obtain ⟨⟨q0, hq0⟩, hcell⟩ := z_pool (s := s) hK hP haL hpk
      refine z_inst (nm := "[B") hx hb hown (hts _ q893) hcell dX0_count_11 ?_
      refine lv_if_eq (tgt := 25) hx hb dX0_count_14 (by decide) (fun c2 => absurd c2 (by decide)) (fun _ => ?_)
      refine lv_aload_n hx hb dX0_count_17 rfl (lv_at hl 0 rfl) ?_
      refine z_castT (nm := "[B") hx hb hown (hts _ q893) hcell dX0_count_18 ?_
      refine va_alen hx hb hK hP q0 0 hq0 rfl rfl dX0_count_21 ?_
      refine lv_goto (tgt := 57) hx hb dX0_count_22 (by decide) ?_
      exact sw _ _ (lv_sub hl [1, 2] rfl) h3
    | 1 =>
      obtain ⟨⟨q0, hq0⟩, hcell⟩ := z_pool (s := s) hK hP haL hpk
      refine va_instNo (C := "[S") (nm := "[B") hx hb hown (hts _ q893) (hh.2.2.2.1.2.2 ("[S", "[B") (by decide)) hcell dX0_count_11 ?_
      refine lv_if_eq (tgt := 25) hx hb dX0_count_14 (by decide) (fun _ => ?_) (fun c2 => absurd rfl c2)
      refine lv_aload_n hx hb dX0_count_25 rfl (lv_at hl 0 rfl) ?_
      refine z_inst (nm := "[S") hx hb hown (hts _ q894) hcell dX0_count_26 ?_
      refine lv_if_eq (tgt := 40) hx hb dX0_count_29 (by decide) (fun c2 => absurd c2 (by decide)) (fun _ => ?_)
      refine lv_aload_n hx hb dX0_count_32 rfl (lv_at hl 0 rfl) ?_
      refine z_castT (nm := "[S") hx hb hown (hts _ q894) hcell dX0_count_33 ?_
      refine va_alen hx hb hK hP q0 3 hq0 rfl rfl dX0_count_36 ?_
      refine lv_goto (tgt := 57) hx hb dX0_count_37 (by decide) ?_
      exact sw _ _ (lv_sub hl [1, 2] rfl) h3
    | n + 2 =>
      obtain ⟨⟨q0, hq0⟩, hcell⟩ := z_pool (s := s) hK hP haL hpk
      refine va_instNo (C := "[I") (nm := "[B") hx hb hown (hts _ q893) (hh.2.2.2.1.2.2 ("[I", "[B") (by decide)) hcell dX0_count_11 ?_
      refine lv_if_eq (tgt := 25) hx hb dX0_count_14 (by decide) (fun _ => ?_) (fun c2 => absurd rfl c2)
      refine lv_aload_n hx hb dX0_count_25 rfl (lv_at hl 0 rfl) ?_
      refine va_instNo (C := "[I") (nm := "[S") hx hb hown (hts _ q894) (hh.2.2.2.1.2.2 ("[I", "[S") (by decide)) hcell dX0_count_26 ?_
      refine lv_if_eq (tgt := 40) hx hb dX0_count_29 (by decide) (fun _ => ?_) (fun c2 => absurd rfl c2)
      refine lv_aload_n hx hb dX0_count_40 rfl (lv_at hl 0 rfl) ?_
      refine z_inst (nm := "[I") hx hb hown (hts _ q895) hcell dX0_count_41 ?_
      refine lv_if_eq (tgt := 55) hx hb dX0_count_44 (by decide) (fun c2 => absurd c2 (by decide)) (fun _ => ?_)
      refine lv_aload_n hx hb dX0_count_47 rfl (lv_at hl 0 rfl) ?_
      refine z_castT (nm := "[I") hx hb hown (hts _ q895) hcell dX0_count_48 ?_
      refine va_alen hx hb hK hP q0 1 hq0 rfl rfl dX0_count_51 ?_
      refine lv_goto (tgt := 57) hx hb dX0_count_52 (by decide) ?_
      exact sw _ _ (lv_sub hl [1, 2] rfl) h3
