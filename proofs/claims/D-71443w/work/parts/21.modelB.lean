set_option maxRecDepth 100000
theorem pdX7_isTown : yX7_isTown.cls = "LoseLeagueModel" ∧ yX7_isTown.cls ≠ "java/lang/invoke/MethodHandle" ∧ yX7_isTown.cls ≠ "java/lang/invoke/VarHandle" ∧ (parseMethodDescriptor yX7_isTown.desc).map (fun d => d.parameters.length) = some 1 := by decide +kernel
theorem peX7_isTown : yX7_isTown.name ≠ "<init>" ∧ (parseMethodDescriptor yX7_isTown.desc).map (fun d => d.parameters.length) = some 1 := by decide +kernel
theorem pdX7_isPair : yX7_isPair.cls = "LoseLeagueModel" ∧ yX7_isPair.cls ≠ "java/lang/invoke/MethodHandle" ∧ yX7_isPair.cls ≠ "java/lang/invoke/VarHandle" ∧ (parseMethodDescriptor yX7_isPair.desc).map (fun d => d.parameters.length) = some 2 := by decide +kernel
theorem peX7_isPair : yX7_isPair.name ≠ "<init>" ∧ (parseMethodDescriptor yX7_isPair.desc).map (fun d => d.parameters.length) = some 2 := by decide +kernel
theorem pdX7_isFixture : yX7_isFixture.cls = "LoseLeagueModel" ∧ yX7_isFixture.cls ≠ "java/lang/invoke/MethodHandle" ∧ yX7_isFixture.cls ≠ "java/lang/invoke/VarHandle" ∧ (parseMethodDescriptor yX7_isFixture.desc).map (fun d => d.parameters.length) = some 1 := by decide +kernel
theorem peX7_isFixture : yX7_isFixture.name ≠ "<init>" ∧ (parseMethodDescriptor yX7_isFixture.desc).map (fun d => d.parameters.length) = some 1 := by decide +kernel
theorem pdX7_playsOn : yX7_playsOn.cls = "LoseLeagueModel" ∧ yX7_playsOn.cls ≠ "java/lang/invoke/MethodHandle" ∧ yX7_playsOn.cls ≠ "java/lang/invoke/VarHandle" ∧ (parseMethodDescriptor yX7_playsOn.desc).map (fun d => d.parameters.length) = some 2 := by decide +kernel
theorem peX7_playsOn : yX7_playsOn.name ≠ "<init>" ∧ (parseMethodDescriptor yX7_playsOn.desc).map (fun d => d.parameters.length) = some 2 := by decide +kernel
theorem pdX7_gameOn : yX7_gameOn.cls = "LoseLeagueModel" ∧ yX7_gameOn.cls ≠ "java/lang/invoke/MethodHandle" ∧ yX7_gameOn.cls ≠ "java/lang/invoke/VarHandle" ∧ (parseMethodDescriptor yX7_gameOn.desc).map (fun d => d.parameters.length) = some 3 := by decide +kernel
theorem peX7_gameOn : yX7_gameOn.name ≠ "<init>" ∧ (parseMethodDescriptor yX7_gameOn.desc).map (fun d => d.parameters.length) = some 3 := by decide +kernel
theorem pdX7_playedOn : yX7_playedOn.cls = "LoseLeagueModel" ∧ yX7_playedOn.cls ≠ "java/lang/invoke/MethodHandle" ∧ yX7_playedOn.cls ≠ "java/lang/invoke/VarHandle" ∧ (parseMethodDescriptor yX7_playedOn.desc).map (fun d => d.parameters.length) = some 3 := by decide +kernel
theorem peX7_playedOn : yX7_playedOn.name ≠ "<init>" ∧ (parseMethodDescriptor yX7_playedOn.desc).map (fun d => d.parameters.length) = some 3 := by decide +kernel
theorem pdX7_placeOn : yX7_placeOn.cls = "LoseLeagueModel" ∧ yX7_placeOn.cls ≠ "java/lang/invoke/MethodHandle" ∧ yX7_placeOn.cls ≠ "java/lang/invoke/VarHandle" ∧ (parseMethodDescriptor yX7_placeOn.desc).map (fun d => d.parameters.length) = some 1 := by decide +kernel
theorem peX7_placeOn : yX7_placeOn.name ≠ "<init>" ∧ (parseMethodDescriptor yX7_placeOn.desc).map (fun d => d.parameters.length) = some 1 := by decide +kernel
theorem pdX7_yearsEnd : yX7_yearsEnd.cls = "LoseLeagueModel" ∧ yX7_yearsEnd.cls ≠ "java/lang/invoke/MethodHandle" ∧ yX7_yearsEnd.cls ≠ "java/lang/invoke/VarHandle" ∧ (parseMethodDescriptor yX7_yearsEnd.desc).map (fun d => d.parameters.length) = some 1 := by decide +kernel
theorem peX7_yearsEnd : yX7_yearsEnd.name ≠ "<init>" ∧ (parseMethodDescriptor yX7_yearsEnd.desc).map (fun d => d.parameters.length) = some 1 := by decide +kernel
theorem pdX7_weekOn : yX7_weekOn.cls = "LoseLeagueModel" ∧ yX7_weekOn.cls ≠ "java/lang/invoke/MethodHandle" ∧ yX7_weekOn.cls ≠ "java/lang/invoke/VarHandle" ∧ (parseMethodDescriptor yX7_weekOn.desc).map (fun d => d.parameters.length) = some 2 := by decide +kernel
theorem peX7_weekOn : yX7_weekOn.name ≠ "<init>" ∧ (parseMethodDescriptor yX7_weekOn.desc).map (fun d => d.parameters.length) = some 2 := by decide +kernel
theorem pdX7_owedOn : yX7_owedOn.cls = "LoseLeagueModel" ∧ yX7_owedOn.cls ≠ "java/lang/invoke/MethodHandle" ∧ yX7_owedOn.cls ≠ "java/lang/invoke/VarHandle" ∧ (parseMethodDescriptor yX7_owedOn.desc).map (fun d => d.parameters.length) = some 1 := by decide +kernel
theorem peX7_owedOn : yX7_owedOn.name ≠ "<init>" ∧ (parseMethodDescriptor yX7_owedOn.desc).map (fun d => d.parameters.length) = some 1 := by decide +kernel
theorem pdX7_losersOn : yX7_losersOn.cls = "LoseLeagueModel" ∧ yX7_losersOn.cls ≠ "java/lang/invoke/MethodHandle" ∧ yX7_losersOn.cls ≠ "java/lang/invoke/VarHandle" ∧ (parseMethodDescriptor yX7_losersOn.desc).map (fun d => d.parameters.length) = some 1 := by decide +kernel
theorem peX7_losersOn : yX7_losersOn.name ≠ "<init>" ∧ (parseMethodDescriptor yX7_losersOn.desc).map (fun d => d.parameters.length) = some 1 := by decide +kernel
theorem pdX7_rule : yX7_rule.cls = "LoseLeagueModel" ∧ yX7_rule.cls ≠ "java/lang/invoke/MethodHandle" ∧ yX7_rule.cls ≠ "java/lang/invoke/VarHandle" ∧ (parseMethodDescriptor yX7_rule.desc).map (fun d => d.parameters.length) = some 1 := by decide +kernel
theorem peX7_rule : yX7_rule.name ≠ "<init>" ∧ (parseMethodDescriptor yX7_rule.desc).map (fun d => d.parameters.length) = some 1 := by decide +kernel
theorem pdX7_town : yX7_town.cls = "LoseLeagueModel" ∧ yX7_town.cls ≠ "java/lang/invoke/MethodHandle" ∧ yX7_town.cls ≠ "java/lang/invoke/VarHandle" ∧ (parseMethodDescriptor yX7_town.desc).map (fun d => d.parameters.length) = some 2 := by decide +kernel
theorem peX7_town : yX7_town.name ≠ "<init>" ∧ (parseMethodDescriptor yX7_town.desc).map (fun d => d.parameters.length) = some 2 := by decide +kernel
theorem pdX7_fixture : yX7_fixture.cls = "LoseLeagueModel" ∧ yX7_fixture.cls ≠ "java/lang/invoke/MethodHandle" ∧ yX7_fixture.cls ≠ "java/lang/invoke/VarHandle" ∧ (parseMethodDescriptor yX7_fixture.desc).map (fun d => d.parameters.length) = some 2 := by decide +kernel
theorem peX7_fixture : yX7_fixture.name ≠ "<init>" ∧ (parseMethodDescriptor yX7_fixture.desc).map (fun d => d.parameters.length) = some 2 := by decide +kernel
theorem pdX7_game : yX7_game.cls = "LoseLeagueModel" ∧ yX7_game.cls ≠ "java/lang/invoke/MethodHandle" ∧ yX7_game.cls ≠ "java/lang/invoke/VarHandle" ∧ (parseMethodDescriptor yX7_game.desc).map (fun d => d.parameters.length) = some 2 := by decide +kernel
theorem peX7_game : yX7_game.name ≠ "<init>" ∧ (parseMethodDescriptor yX7_game.desc).map (fun d => d.parameters.length) = some 2 := by decide +kernel
theorem pdX7_puts : yX7_puts.cls = "LoseLeagueModel" ∧ yX7_puts.cls ≠ "java/lang/invoke/MethodHandle" ∧ yX7_puts.cls ≠ "java/lang/invoke/VarHandle" ∧ (parseMethodDescriptor yX7_puts.desc).map (fun d => d.parameters.length) = some 3 := by decide +kernel
theorem peX7_puts : yX7_puts.name ≠ "<init>" ∧ (parseMethodDescriptor yX7_puts.desc).map (fun d => d.parameters.length) = some 3 := by decide +kernel
theorem pdX7_alter : yX7_alter.cls = "LoseLeagueModel" ∧ yX7_alter.cls ≠ "java/lang/invoke/MethodHandle" ∧ yX7_alter.cls ≠ "java/lang/invoke/VarHandle" ∧ (parseMethodDescriptor yX7_alter.desc).map (fun d => d.parameters.length) = some 3 := by decide +kernel
theorem peX7_alter : yX7_alter.name ≠ "<init>" ∧ (parseMethodDescriptor yX7_alter.desc).map (fun d => d.parameters.length) = some 3 := by decide +kernel
theorem pdX7_lendsOn : yX7_lendsOn.cls = "LoseLeagueModel" ∧ yX7_lendsOn.cls ≠ "java/lang/invoke/MethodHandle" ∧ yX7_lendsOn.cls ≠ "java/lang/invoke/VarHandle" ∧ (parseMethodDescriptor yX7_lendsOn.desc).map (fun d => d.parameters.length) = some 4 := by decide +kernel
theorem peX7_lendsOn : yX7_lendsOn.name ≠ "<init>" ∧ (parseMethodDescriptor yX7_lendsOn.desc).map (fun d => d.parameters.length) = some 4 := by decide +kernel
theorem pdX7_lend : yX7_lend.cls = "LoseLeagueModel" ∧ yX7_lend.cls ≠ "java/lang/invoke/MethodHandle" ∧ yX7_lend.cls ≠ "java/lang/invoke/VarHandle" ∧ (parseMethodDescriptor yX7_lend.desc).map (fun d => d.parameters.length) = some 3 := by decide +kernel
theorem peX7_lend : yX7_lend.name ≠ "<init>" ∧ (parseMethodDescriptor yX7_lend.desc).map (fun d => d.parameters.length) = some 3 := by decide +kernel
theorem pdX7_books : yX7_books.cls = "LoseLeagueModel" ∧ yX7_books.cls ≠ "java/lang/invoke/MethodHandle" ∧ yX7_books.cls ≠ "java/lang/invoke/VarHandle" ∧ (parseMethodDescriptor yX7_books.desc).map (fun d => d.parameters.length) = some 2 := by decide +kernel
theorem peX7_books : yX7_books.name ≠ "<init>" ∧ (parseMethodDescriptor yX7_books.desc).map (fun d => d.parameters.length) = some 2 := by decide +kernel
theorem pdX7_book : yX7_book.cls = "LoseLeagueModel" ∧ yX7_book.cls ≠ "java/lang/invoke/MethodHandle" ∧ yX7_book.cls ≠ "java/lang/invoke/VarHandle" ∧ (parseMethodDescriptor yX7_book.desc).map (fun d => d.parameters.length) = some 2 := by decide +kernel
theorem peX7_book : yX7_book.name ≠ "<init>" ∧ (parseMethodDescriptor yX7_book.desc).map (fun d => d.parameters.length) = some 2 := by decide +kernel
theorem pdX7_strike : yX7_strike.cls = "LoseLeagueModel" ∧ yX7_strike.cls ≠ "java/lang/invoke/MethodHandle" ∧ yX7_strike.cls ≠ "java/lang/invoke/VarHandle" ∧ (parseMethodDescriptor yX7_strike.desc).map (fun d => d.parameters.length) = some 1 := by decide +kernel
theorem peX7_strike : yX7_strike.name ≠ "<init>" ∧ (parseMethodDescriptor yX7_strike.desc).map (fun d => d.parameters.length) = some 1 := by decide +kernel
theorem pdX7_weeks : yX7_weeks.cls = "LoseLeagueModel" ∧ yX7_weeks.cls ≠ "java/lang/invoke/MethodHandle" ∧ yX7_weeks.cls ≠ "java/lang/invoke/VarHandle" ∧ (parseMethodDescriptor yX7_weeks.desc).map (fun d => d.parameters.length) = some 1 := by decide +kernel
theorem peX7_weeks : yX7_weeks.name ≠ "<init>" ∧ (parseMethodDescriptor yX7_weeks.desc).map (fun d => d.parameters.length) = some 1 := by decide +kernel
def wpX7_isTown (f : Nat → Int32) (p1 : Int32) (Q : Int32 → Prop) : Prop :=
  (wpX7_in (p1.toInt64) (0 : Int64) (((f 1) - (1 : Int32)).toInt64) (fun r_1 => (narrow .boolean (.int r_1) = .int r_1 ∧ Q r_1)))
set_option maxHeartbeats 4000000 in
theorem metX7_isTown (l : Launch) (D : va_G) (kk : Nat → ClassId) (am : Nat → Nat) (sz : Nat) (f : Nat → Int32) (p1 : Int32) (Q : Int32 → Prop) (h : wpX7_isTown f p1 Q) : Met l yX7_isTown (ws_ yX7_isTown cX7_isTown 2 (some .boolean)) { frames := 1, cells := 0, slots := 0, locals := 25 } (va_Pc ([.ref (am 0), .int p1] : List Value) (zPc D kk [zM am f] sz)) (va_Qi (fun (r : Int32) (u : Unit) => Q r ) (zB D (va_A [zM am f] sz) (fun u : Unit => [zM am f])) (va_A [zM am f] sz)) 0 0 (va_A [zM am f] sz) := by
  refine zMet (Qc := fun A => va_Qi (fun (r : Int32) (u : Unit) => Q r ) (zB D A (fun u : Unit => [zM am f])) A) (by decide) (Nat.le_of_ble_eq_true rfl) ?_
  intro p e s m below meth c A X hP hD hS ls hl
  obtain ⟨hx, hb, hr, hml, hown, hts, hlk, hnm, hK, hN, hA⟩ := X
  have hown : s.vm.findClass "LoseLeagueModel" = some m.cls := hown
  have hl : lv_has ls 2 [(0, .ref (am 0)), (1, .int p1)] := hl
  unfold wpX7_isTown at h
  refine lv_iload_n hx hb dX7_isTown_0 rfl (lv_at hl 1 rfl) ?_
  refine lv_i2l hx hb dX7_isTown_1 rfl ?_
  refine lv_lconst (v := (0 : Int64)) hx hb dX7_isTown_2 (by decide) ?_
  refine lv_aload_n hx hb dX7_isTown_3 rfl (lv_at hl 0 rfl) ?_
  refine va_get (D := D) (ci := 7) (v := .int (f 1)) (C := RX7) (T := TX7) (N := 29) hx hb hts in_X7 hown hK hP 0 rfl rfl 1 (Nat.le_of_ble_eq_true rfl) (hts _ q940) (fun _ h9 => h9) rfl dX7_isTown_4 ?_
  refine lv_iconst (v := (1 : Int32)) hx hb dX7_isTown_7 (by decide) ?_
  refine lv_isub hx hb dX7_isTown_8 ?_
  refine lv_i2l hx hb dX7_isTown_9 rfl ?_
  refine zc_i (wc := []) (wr := [zM am f]) (w1 := (fun u : Unit => [])) (rest := []) [] [0] rfl rfl (by decide) (by decide) (by decide) hA hP hD hS (fun hP hD => va_runS (As := [.long (p1.toInt64), .long (0 : Int64), .long (((f 1) - (1 : Int32)).toInt64)]) (rest := []) ⟨hx, hb, hml, hown, hts⟩ (metX7_in l D kk _ (p1.toInt64) (0 : Int64) (((f 1) - (1 : Int32)).toInt64) _ h) (va_cwS 3 hts (lw_S q1033 q1034 q71 q1035) rfl rfl rfl pdX7_in.2 ⟨(Nat.le_of_ble_eq_true rfl), (Nat.le_of_ble_eq_true rfl)⟩) (zp_S hK hN hP hD) rfl rfl hl.1 rfl (lv_room (Nat.le_of_ble_eq_true rfl)) dX7_isTown_10 ⟨(Nat.le_of_ble_eq_true rfl), (Nat.le_of_ble_eq_true rfl)⟩) (fun r_1 u H locs h hP hD hS => ?_)
  try dsimp only at h
  have hP : va_P D vwCl [zM am f] H := hP
  have hD : va_D A [zM am f] := hD
  obtain ⟨hnar, h⟩ := h
  exact zr_i hx hb hr hlk hnar hP hD hS () [0] rfl (by decide) dX7_isTown_13 h
def wpX7_isPair (f : Nat → Int32) (p1 : Int32) (p2 : Int32) (Q : Int32 → Prop) : Prop :=
  (wpX7_isTown f p1 (fun r_1 => ((r_1 = 0 → Q (0 : Int32)) ∧ (¬ r_1 = 0 → (wpX7_isTown f p2 (fun r_3 => ((r_3 = 0 → Q (0 : Int32)) ∧ (¬ r_3 = 0 → ((p1 = p2 → Q (0 : Int32)) ∧ (¬ p1 = p2 → Q (1 : Int32)))))))))))
set_option maxHeartbeats 4000000 in
theorem metX7_isPair (l : Launch) (D : va_G) (kk : Nat → ClassId) (am : Nat → Nat) (sz : Nat) (f : Nat → Int32) (p1 : Int32) (p2 : Int32) (Q : Int32 → Prop) (h : wpX7_isPair f p1 p2 Q) : Met l yX7_isPair (ws_ yX7_isPair cX7_isPair 3 (some .boolean)) { frames := 2, cells := 0, slots := 0, locals := 46 } (va_Pc ([.ref (am 0), .int p1, .int p2] : List Value) (zPc D kk [zM am f] sz)) (va_Qi (fun (r : Int32) (u : Unit) => Q r ) (zB D (va_A [zM am f] sz) (fun u : Unit => [zM am f])) (va_A [zM am f] sz)) 0 0 (va_A [zM am f] sz) := by
  refine zMet (Qc := fun A => va_Qi (fun (r : Int32) (u : Unit) => Q r ) (zB D A (fun u : Unit => [zM am f])) A) (by decide) (Nat.le_of_ble_eq_true rfl) ?_
  intro p e s m below meth c A X hP hD hS ls hl
  obtain ⟨hx, hb, hr, hml, hown, hts, hlk, hnm, hK, hN, hA⟩ := X
  have hown : s.vm.findClass "LoseLeagueModel" = some m.cls := hown
  have hl : lv_has ls 3 [(0, .ref (am 0)), (1, .int p1), (2, .int p2)] := hl
  unfold wpX7_isPair at h
  refine lv_aload_n hx hb dX7_isPair_0 rfl (lv_at hl 0 rfl) ?_
  refine lv_iload_n hx hb dX7_isPair_1 rfl (lv_at hl 1 rfl) ?_
  have hrc := va_recv hK hP (ci := 7) (q0 := 0) rfl rfl
  refine zc_i (wc := [zM am f]) (wr := []) (w1 := (fun u : Unit => [zM am f])) (rest := []) [0] [] rfl rfl (by decide) (by decide) (by decide) hA hP hD hS (fun hP hD => va_runV (As := [.int p1]) (rest := []) ⟨hx, hb, hml, hown, hts⟩ (metX7_isTown l D kk am _ f p1 _ h) (cwV 1 hts (lw_V q1105 q1107 qs45 q71 q1108) rfl rfl rfl pdX7_isTown ⟨(Nat.le_of_ble_eq_true rfl), (Nat.le_of_ble_eq_true rfl)⟩) (zp_V hK hN hrc hP hD) rfl rfl hl.1 rfl (lv_room (Nat.le_of_ble_eq_true rfl)) dX7_isPair_2 ⟨(Nat.le_of_ble_eq_true rfl), (Nat.le_of_ble_eq_true rfl)⟩) (fun r_1 u H locs h hP hD hS => ?_)
  try dsimp only at h
  have hP : va_P D vwCl [zM am f] H := hP
  have hD : va_D A [zM am f] := hD
  refine lv_if_eq (tgt := 25) hx hb dX7_isPair_5 (by decide) (fun c_2 => ?_) (fun c_2 => ?_)
  · have h := h.1 c_2
    refine lv_iconst (v := (0 : Int32)) hx hb dX7_isPair_25 (by decide) ?_
    exact zr_i hx hb hr hlk rfl hP hD hS () [0] rfl (by decide) dX7_isPair_26 h
  · have h := h.2 c_2
    refine lv_aload_n hx hb dX7_isPair_8 rfl (lv_at hl 0 rfl) ?_
    refine lv_iload_n hx hb dX7_isPair_9 rfl (lv_at hl 2 rfl) ?_
    have hrc := va_recv hK hP (ci := 7) (q0 := 0) rfl rfl
    refine zc_i (wc := [zM am f]) (wr := []) (w1 := (fun u : Unit => [zM am f])) (rest := []) [0] [] rfl rfl (by decide) (by decide) (by decide) hA hP hD hS (fun hP hD => va_runV (As := [.int p2]) (rest := []) ⟨hx, hb, hml, hown, hts⟩ (metX7_isTown l D kk am _ f p2 _ h) (cwV 1 hts (lw_V q1105 q1107 qs45 q71 q1108) rfl rfl rfl pdX7_isTown ⟨(Nat.le_of_ble_eq_true rfl), (Nat.le_of_ble_eq_true rfl)⟩) (zp_V hK hN hrc hP hD) rfl rfl hl.1 rfl (lv_room (Nat.le_of_ble_eq_true rfl)) dX7_isPair_10 ⟨(Nat.le_of_ble_eq_true rfl), (Nat.le_of_ble_eq_true rfl)⟩) (fun r_3 u H locs h hP hD hS => ?_)
    try dsimp only at h
    have hP : va_P D vwCl [zM am f] H := hP
    have hD : va_D A [zM am f] := hD
    refine lv_if_eq (tgt := 25) hx hb dX7_isPair_13 (by decide) (fun c_4 => ?_) (fun c_4 => ?_)
    · have h := h.1 c_4
      refine lv_iconst (v := (0 : Int32)) hx hb dX7_isPair_25 (by decide) ?_
      exact zr_i hx hb hr hlk rfl hP hD hS () [0] rfl (by decide) dX7_isPair_26 h
    · have h := h.2 c_4
      refine lv_iload_n hx hb dX7_isPair_16 rfl (lv_at hl 1 rfl) ?_
      refine lv_iload_n hx hb dX7_isPair_17 rfl (lv_at hl 2 rfl) ?_
      refine lv_icmp_eq (tgt := 25) hx hb dX7_isPair_18 (by decide) (fun c_5 => ?_) (fun c_5 => ?_)
      · have h := h.1 c_5
        refine lv_iconst (v := (0 : Int32)) hx hb dX7_isPair_25 (by decide) ?_
        exact zr_i hx hb hr hlk rfl hP hD hS () [0] rfl (by decide) dX7_isPair_26 h
      · have h := h.2 c_5
        refine lv_iconst (v := (1 : Int32)) hx hb dX7_isPair_21 (by decide) ?_
        refine lv_goto (tgt := 26) hx hb dX7_isPair_22 (by decide) ?_
        exact zr_i hx hb hr hlk rfl hP hD hS () [0] rfl (by decide) dX7_isPair_26 h
def wpX7_isFixture (st : Nat → Int32) (p1 : Int32) (Q : Int32 → Prop) : Prop :=
  (wpX7_in (p1.toInt64) (0 : Int64) (((st (40 : Int32).toNatClampNeg) - (1 : Int32)).toInt64) (fun r_1 => (narrow .boolean (.int r_1) = .int r_1 ∧ Q r_1)))
set_option maxHeartbeats 4000000 in
theorem metX7_isFixture (l : Launch) (D : va_G) (kk : Nat → ClassId) (am : Nat → Nat) (sz : Nat) (f : Nat → Int32) (st : Nat → Int32) (p1 : Int32) (Q : Int32 → Prop) (h : wpX7_isFixture st p1 Q) : Met l yX7_isFixture (ws_ yX7_isFixture cX7_isFixture 2 (some .boolean)) { frames := 1, cells := 0, slots := 0, locals := 25 } (va_Pc ([.ref (am 0), .int p1] : List Value) (zPc D kk [zM am f, zA (kk 1) (am 1) 252 st] sz)) (va_Qi (fun (r : Int32) (u : Unit) => Q r ) (zB D (va_A [zM am f, zA (kk 1) (am 1) 252 st] sz) (fun u : Unit => [zM am f, zA (kk 1) (am 1) 252 st])) (va_A [zM am f, zA (kk 1) (am 1) 252 st] sz)) 0 0 (va_A [zM am f, zA (kk 1) (am 1) 252 st] sz) := by
  refine zMet (Qc := fun A => va_Qi (fun (r : Int32) (u : Unit) => Q r ) (zB D A (fun u : Unit => [zM am f, zA (kk 1) (am 1) 252 st])) A) (by decide) (Nat.le_of_ble_eq_true rfl) ?_
  intro p e s m below meth c A X hP hD hS ls hl
  obtain ⟨hx, hb, hr, hml, hown, hts, hlk, hnm, hK, hN, hA⟩ := X
  have hown : s.vm.findClass "LoseLeagueModel" = some m.cls := hown
  have hl : lv_has ls 2 [(0, .ref (am 0)), (1, .int p1)] := hl
  unfold wpX7_isFixture at h
  refine lv_iload_n hx hb dX7_isFixture_0 rfl (lv_at hl 1 rfl) ?_
  refine lv_i2l hx hb dX7_isFixture_1 rfl ?_
  refine lv_lconst (v := (0 : Int64)) hx hb dX7_isFixture_2 (by decide) ?_
  refine lv_aload_n hx hb dX7_isFixture_3 rfl (lv_at hl 0 rfl) ?_
  refine va_get (D := D) (ci := 7) (v := .ref (am 1)) (C := RX7) (T := TX7) (N := 29) hx hb hts in_X7 hown hK hP 0 rfl rfl 0 (Nat.le_of_ble_eq_true rfl) (hts _ q939) (fun _ h9 => h9) rfl dX7_isFixture_4 ?_
  refine lv_bipush (v := (40 : Int32)) hx hb dX7_isFixture_7 (by decide) ?_
  refine va_iald hx hb hK hP 1 1 rfl rfl (by unfold vp_in; decide) dX7_isFixture_9 ?_
  refine lv_iconst (v := (1 : Int32)) hx hb dX7_isFixture_10 (by decide) ?_
  refine lv_isub hx hb dX7_isFixture_11 ?_
  refine lv_i2l hx hb dX7_isFixture_12 rfl ?_
  refine zc_i (wc := []) (wr := [zM am f, zA (kk 1) (am 1) 252 st]) (w1 := (fun u : Unit => [])) (rest := []) [] [0, 1] rfl rfl (by decide) (by decide) (by decide) hA hP hD hS (fun hP hD => va_runS (As := [.long (p1.toInt64), .long (0 : Int64), .long (((st (40 : Int32).toNatClampNeg) - (1 : Int32)).toInt64)]) (rest := []) ⟨hx, hb, hml, hown, hts⟩ (metX7_in l D kk _ (p1.toInt64) (0 : Int64) (((st (40 : Int32).toNatClampNeg) - (1 : Int32)).toInt64) _ h) (va_cwS 3 hts (lw_S q1033 q1034 q71 q1035) rfl rfl rfl pdX7_in.2 ⟨(Nat.le_of_ble_eq_true rfl), (Nat.le_of_ble_eq_true rfl)⟩) (zp_S hK hN hP hD) rfl rfl hl.1 rfl (lv_room (Nat.le_of_ble_eq_true rfl)) dX7_isFixture_13 ⟨(Nat.le_of_ble_eq_true rfl), (Nat.le_of_ble_eq_true rfl)⟩) (fun r_1 u H locs h hP hD hS => ?_)
  try dsimp only at h
  have hP : va_P D vwCl [zM am f, zA (kk 1) (am 1) 252 st] H := hP
  have hD : va_D A [zM am f, zA (kk 1) (am 1) 252 st] := hD
  obtain ⟨hnar, h⟩ := h
  exact zr_i hx hb hr hlk hnar hP hD hS () [0, 1] rfl (by decide) dX7_isFixture_16 h
def wpX7_playsOn_44 (st : Nat → Int32) (p1 : Int32) (p2 : Int32) (Q : Int32 → Prop) (x3 : Int32) (x4 : Int32) (s0 : Int32) : Prop :=
  ((x3 = 0 → Q x4) ∧ (¬ x3 = 0 → ((x3 = (1 : Int32) → Q (x4 + (3 : Int32))) ∧ (¬ x3 = (1 : Int32) → ((x3 = (2 : Int32) → Q s0) ∧ (¬ x3 = (2 : Int32) → ((s0 ≤ (2 : Int32) → Q (0 : Int32)) ∧ (¬ s0 ≤ (2 : Int32) → Q (s0 - (2 : Int32))))))))))
def wpX7_playsOn (st : Nat → Int32) (p1 : Int32) (p2 : Int32) (Q : Int32 → Prop) : Prop :=
  (vp_in (p1 + p2) 252 ∧ (vp_in ((p1 + (5 : Int32)) + p2) 252 ∧ (∀ x4_1 : Int32, x4_1 = (st ((p1 + (5 : Int32)) + p2).toNatClampNeg) → (vp_in ((p1 + (10 : Int32)) + p2) 252 ∧ (((st ((p1 + (10 : Int32)) + p2).toNatClampNeg) = 0 → wpX7_playsOn_44 st p1 p2 Q  (st (p1 + p2).toNatClampNeg) x4_1 (x4_1 / (2 : Int32))) ∧ (¬ (st ((p1 + (10 : Int32)) + p2).toNatClampNeg) = 0 → wpX7_playsOn_44 st p1 p2 Q  (st (p1 + p2).toNatClampNeg) x4_1 x4_1))))))
set_option maxHeartbeats 4000000 in
theorem metX7_playsOn (l : Launch) (D : va_G) (kk : Nat → ClassId) (am : Nat → Nat) (sz : Nat) (f : Nat → Int32) (st : Nat → Int32) (p1 : Int32) (p2 : Int32) (Q : Int32 → Prop) (h : wpX7_playsOn st p1 p2 Q) : Met l yX7_playsOn (ws_ yX7_playsOn cX7_playsOn 6 (some .int)) { frames := 0, cells := 0, slots := 0, locals := 0 } (va_Pc ([.ref (am 0), .int p1, .int p2] : List Value) (zPc D kk [zM am f, zA (kk 1) (am 1) 252 st] sz)) (va_Qi (fun (r : Int32) (u : Unit) => Q r ) (zB D (va_A [zM am f, zA (kk 1) (am 1) 252 st] sz) (fun u : Unit => [zM am f, zA (kk 1) (am 1) 252 st])) (va_A [zM am f, zA (kk 1) (am 1) 252 st] sz)) 0 0 (va_A [zM am f, zA (kk 1) (am 1) 252 st] sz) := by
  refine zMet (Qc := fun A => va_Qi (fun (r : Int32) (u : Unit) => Q r ) (zB D A (fun u : Unit => [zM am f, zA (kk 1) (am 1) 252 st])) A) (by decide) (Nat.le_of_ble_eq_true rfl) ?_
  intro p e s m below meth c A X hP hD hS ls hl
  obtain ⟨hx, hb, hr, hml, hown, hts, hlk, hnm, hK, hN, hA⟩ := X
  have hown : s.vm.findClass "LoseLeagueModel" = some m.cls := hown
  have hl : lv_has ls 6 [(0, .ref (am 0)), (1, .int p1), (2, .int p2)] := hl
  unfold wpX7_playsOn at h
  refine lv_aload_n hx hb dX7_playsOn_0 rfl (lv_at hl 0 rfl) ?_
  refine va_get (D := D) (ci := 7) (v := .ref (am 1)) (C := RX7) (T := TX7) (N := 29) hx hb hts in_X7 hown hK hP 0 rfl rfl 0 (Nat.le_of_ble_eq_true rfl) (hts _ q939) (fun _ h9 => h9) rfl dX7_playsOn_1 ?_
  refine lv_iload_n hx hb dX7_playsOn_4 rfl (lv_at hl 1 rfl) ?_
  refine lv_iload_n hx hb dX7_playsOn_5 rfl (lv_at hl 2 rfl) ?_
  refine lv_iadd hx hb dX7_playsOn_6 ?_
  obtain ⟨hin, h⟩ := h
  refine va_iald hx hb hK hP 1 1 rfl rfl hin dX7_playsOn_7 ?_
  refine lv_istore_n (lv' := [(3, .int (st (p1 + p2).toNatClampNeg)), (0, .ref (am 0)), (1, .int p1), (2, .int p2)]) hx hb dX7_playsOn_8 rfl hl (by decide) rfl (fun ls hl => ?_)
  refine lv_aload_n hx hb dX7_playsOn_9 rfl (lv_at hl 1 rfl) ?_
  refine va_get (D := D) (ci := 7) (v := .ref (am 1)) (C := RX7) (T := TX7) (N := 29) hx hb hts in_X7 hown hK hP 0 rfl rfl 0 (Nat.le_of_ble_eq_true rfl) (hts _ q939) (fun _ h9 => h9) rfl dX7_playsOn_10 ?_
  refine lv_iload_n hx hb dX7_playsOn_13 rfl (lv_at hl 2 rfl) ?_
  refine lv_iconst (v := (5 : Int32)) hx hb dX7_playsOn_14 (by decide) ?_
  refine lv_iadd hx hb dX7_playsOn_15 ?_
  refine lv_iload_n hx hb dX7_playsOn_16 rfl (lv_at hl 3 rfl) ?_
  refine lv_iadd hx hb dX7_playsOn_17 ?_
  obtain ⟨hin, h⟩ := h
  refine va_iald hx hb hK hP 1 1 rfl rfl hin dX7_playsOn_18 ?_
  refine lv_topi (fun x4_1 ex4_1 => ?_)
  have h := h x4_1 ex4_1
  refine lv_istore (lv' := [(4, .int x4_1), (3, .int (st (p1 + p2).toNatClampNeg)), (0, .ref (am 0)), (1, .int p1), (2, .int p2)]) hx hb dX7_playsOn_19 hl (by decide) rfl (fun ls hl => ?_)
  refine lv_aload_n hx hb dX7_playsOn_21 rfl (lv_at hl 2 rfl) ?_
  refine va_get (D := D) (ci := 7) (v := .ref (am 1)) (C := RX7) (T := TX7) (N := 29) hx hb hts in_X7 hown hK hP 0 rfl rfl 0 (Nat.le_of_ble_eq_true rfl) (hts _ q939) (fun _ h9 => h9) rfl dX7_playsOn_22 ?_
  refine lv_iload_n hx hb dX7_playsOn_25 rfl (lv_at hl 3 rfl) ?_
  refine lv_bipush (v := (10 : Int32)) hx hb dX7_playsOn_26 (by decide) ?_
  refine lv_iadd hx hb dX7_playsOn_28 ?_
  refine lv_iload_n hx hb dX7_playsOn_29 rfl (lv_at hl 4 rfl) ?_
  refine lv_iadd hx hb dX7_playsOn_30 ?_
  obtain ⟨hin, h⟩ := h
  refine va_iald hx hb hK hP 1 1 rfl rfl hin dX7_playsOn_31 ?_
  have cut_44 : ∀ (x3 : Int32) (x4 : Int32) (s0 : Int32), wpX7_playsOn_44 st p1 p2 Q  x3 x4 s0 → ∀ (H : Heap) (locs : List Loc), va_P D vwCl [zM am f, zA (kk 1) (am 1) 252 st] H → va_D A [zM am f, zA (kk 1) (am 1) 252 st] → va_S A s.heap H locs → ∀ ls : Array Slot, lv_has ls 6 [(3, .int x3), (4, .int x4)] → W p l e { frames := 0, cells := 0, slots := 0, locals := 0 } s m ([.ref (am 0), .int p1, .int p2] : List Value).toArray below meth c H locs 0 0 (MQ below (va_Qi (fun (r : Int32) (u : Unit) => Q r ) (zB D A (fun u : Unit => [zM am f, zA (kk 1) (am 1) 252 st])) A) ([.ref (am 0), .int p1, .int p2] : List Value).toArray s 0 0 A) (F0 m 44 ls [.int s0]) := by
    intro x3 x4 s0 h H locs hP hD hS ls hl
    unfold wpX7_playsOn_44 at h
    refine lv_istore (lv' := [(5, .int s0), (3, .int x3), (4, .int x4)]) hx hb dX7_playsOn_44 hl (by decide) rfl (fun ls hl => ?_)
    refine lv_iload_n hx hb dX7_playsOn_46 rfl (lv_at hl 1 rfl) ?_
    refine lv_if_ne (tgt := 55) hx hb dX7_playsOn_47 (by decide) (fun c_2 => ?_) (fun c_2 => ?_)
    · have h := h.2 c_2
      refine lv_iload_n hx hb dX7_playsOn_55 rfl (lv_at hl 1 rfl) ?_
      refine lv_iconst (v := (1 : Int32)) hx hb dX7_playsOn_56 (by decide) ?_
      refine lv_icmp_ne (tgt := 67) hx hb dX7_playsOn_57 (by decide) (fun c_3 => ?_) (fun c_3 => ?_)
      · have h := h.2 c_3
        refine lv_iload_n hx hb dX7_playsOn_67 rfl (lv_at hl 1 rfl) ?_
        refine lv_iconst (v := (2 : Int32)) hx hb dX7_playsOn_68 (by decide) ?_
        refine lv_icmp_ne (tgt := 77) hx hb dX7_playsOn_69 (by decide) (fun c_4 => ?_) (fun c_4 => ?_)
        · have h := h.2 c_4
          refine lv_iload hx hb dX7_playsOn_77 (lv_at hl 0 rfl) ?_
          refine lv_iconst (v := (2 : Int32)) hx hb dX7_playsOn_79 (by decide) ?_
          refine lv_icmp_le (tgt := 90) hx hb dX7_playsOn_80 (by decide) (fun c_5 => ?_) (fun c_5 => ?_)
          · have h := h.1 c_5
            refine lv_iconst (v := (0 : Int32)) hx hb dX7_playsOn_90 (by decide) ?_
            exact zr_i hx hb hr hlk rfl hP hD hS () [0, 1] rfl (by decide) dX7_playsOn_91 h
          · have h := h.2 c_5
            refine lv_iload hx hb dX7_playsOn_83 (lv_at hl 0 rfl) ?_
            refine lv_iconst (v := (2 : Int32)) hx hb dX7_playsOn_85 (by decide) ?_
            refine lv_isub hx hb dX7_playsOn_86 ?_
            refine lv_goto (tgt := 91) hx hb dX7_playsOn_87 (by decide) ?_
            exact zr_i hx hb hr hlk rfl hP hD hS () [0, 1] rfl (by decide) dX7_playsOn_91 h
        · have h := h.1 c_4
          refine lv_iload hx hb dX7_playsOn_72 (lv_at hl 0 rfl) ?_
          refine lv_goto (tgt := 91) hx hb dX7_playsOn_74 (by decide) ?_
          exact zr_i hx hb hr hlk rfl hP hD hS () [0, 1] rfl (by decide) dX7_playsOn_91 h
      · have h := h.1 c_3
        refine lv_iload hx hb dX7_playsOn_60 (lv_at hl 2 rfl) ?_
        refine lv_iconst (v := (3 : Int32)) hx hb dX7_playsOn_62 (by decide) ?_
        refine lv_iadd hx hb dX7_playsOn_63 ?_
        refine lv_goto (tgt := 91) hx hb dX7_playsOn_64 (by decide) ?_
        exact zr_i hx hb hr hlk rfl hP hD hS () [0, 1] rfl (by decide) dX7_playsOn_91 h
    · have h := h.1 c_2
      refine lv_iload hx hb dX7_playsOn_50 (lv_at hl 2 rfl) ?_
      refine lv_goto (tgt := 91) hx hb dX7_playsOn_52 (by decide) ?_
      exact zr_i hx hb hr hlk rfl hP hD hS () [0, 1] rfl (by decide) dX7_playsOn_91 h
  refine lv_if_ne (tgt := 42) hx hb dX7_playsOn_32 (by decide) (fun c_6 => ?_) (fun c_6 => ?_)
  · have h := h.2 c_6
    refine lv_iload hx hb dX7_playsOn_42 (lv_at hl 0 rfl) ?_
    exact cut_44 (st (p1 + p2).toNatClampNeg) x4_1 x4_1 h _ _ hP hD hS _ (lv_sub hl [1, 0] rfl)
  · have h := h.1 c_6
    refine lv_iload hx hb dX7_playsOn_35 (lv_at hl 0 rfl) ?_
    refine lv_iconst (v := (2 : Int32)) hx hb dX7_playsOn_37 (by decide) ?_
    refine lv_idiv hx hb dX7_playsOn_38 (by decide) ?_
    refine lv_goto (tgt := 44) hx hb dX7_playsOn_39 (by decide) ?_
    exact cut_44 (st (p1 + p2).toNatClampNeg) x4_1 (x4_1 / (2 : Int32)) h _ _ hP hD hS _ (lv_sub hl [1, 0] rfl)
def wpX7_gameOn (st : Nat → Int32) (p1 : Int32) (p2 : Int32) (p3 : Int32) (Q : Int32 → Prop) : Prop :=
  (wpX7_playsOn st p1 p2 (fun r_1 => (wpX7_playsOn st p1 p3 (fun r_2 => ((r_2 ≤ r_1 → ((r_1 ≤ r_2 → Q (-4 : Int32)) ∧ (¬ r_1 ≤ r_2 → Q p3))) ∧ (¬ r_2 ≤ r_1 → Q p2))))))
set_option maxHeartbeats 4000000 in
theorem metX7_gameOn (l : Launch) (D : va_G) (kk : Nat → ClassId) (am : Nat → Nat) (sz : Nat) (f : Nat → Int32) (st : Nat → Int32) (p1 : Int32) (p2 : Int32) (p3 : Int32) (Q : Int32 → Prop) (h : wpX7_gameOn st p1 p2 p3 Q) : Met l yX7_gameOn (ws_ yX7_gameOn cX7_gameOn 6 (some .int)) { frames := 1, cells := 0, slots := 0, locals := 25 } (va_Pc ([.ref (am 0), .int p1, .int p2, .int p3] : List Value) (zPc D kk [zM am f, zA (kk 1) (am 1) 252 st] sz)) (va_Qi (fun (r : Int32) (u : Unit) => Q r ) (zB D (va_A [zM am f, zA (kk 1) (am 1) 252 st] sz) (fun u : Unit => [zM am f, zA (kk 1) (am 1) 252 st])) (va_A [zM am f, zA (kk 1) (am 1) 252 st] sz)) 0 0 (va_A [zM am f, zA (kk 1) (am 1) 252 st] sz) := by
  refine zMet (Qc := fun A => va_Qi (fun (r : Int32) (u : Unit) => Q r ) (zB D A (fun u : Unit => [zM am f, zA (kk 1) (am 1) 252 st])) A) (by decide) (Nat.le_of_ble_eq_true rfl) ?_
  intro p e s m below meth c A X hP hD hS ls hl
  obtain ⟨hx, hb, hr, hml, hown, hts, hlk, hnm, hK, hN, hA⟩ := X
  have hown : s.vm.findClass "LoseLeagueModel" = some m.cls := hown
  have hl : lv_has ls 6 [(0, .ref (am 0)), (1, .int p1), (2, .int p2), (3, .int p3)] := hl
  unfold wpX7_gameOn at h
  refine lv_aload_n hx hb dX7_gameOn_0 rfl (lv_at hl 0 rfl) ?_
  refine lv_iload_n hx hb dX7_gameOn_1 rfl (lv_at hl 1 rfl) ?_
  refine lv_iload_n hx hb dX7_gameOn_2 rfl (lv_at hl 2 rfl) ?_
  have hrc := va_recv hK hP (ci := 7) (q0 := 0) rfl rfl
  refine zc_i (wc := [zM am f, zA (kk 1) (am 1) 252 st]) (wr := []) (w1 := (fun u : Unit => [zM am f, zA (kk 1) (am 1) 252 st])) (rest := []) [0, 1] [] rfl rfl (by decide) (by decide) (by decide) hA hP hD hS (fun hP hD => va_runV (As := [.int p1, .int p2]) (rest := []) ⟨hx, hb, hml, hown, hts⟩ (metX7_playsOn l D kk am _ f st p1 p2 _ h) (cwV 2 hts (lw_V q1109 q1111 qs46 q71 q1112) rfl rfl rfl pdX7_playsOn ⟨(Nat.le_of_ble_eq_true rfl), (Nat.le_of_ble_eq_true rfl)⟩) (zp_V hK hN hrc hP hD) rfl rfl hl.1 rfl (lv_room (Nat.le_of_ble_eq_true rfl)) dX7_gameOn_3 ⟨(Nat.le_of_ble_eq_true rfl), (Nat.le_of_ble_eq_true rfl)⟩) (fun r_1 u H locs h hP hD hS => ?_)
  try dsimp only at h
  have hP : va_P D vwCl [zM am f, zA (kk 1) (am 1) 252 st] H := hP
  have hD : va_D A [zM am f, zA (kk 1) (am 1) 252 st] := hD
  refine lv_istore (lv' := [(4, .int r_1), (0, .ref (am 0)), (1, .int p1), (2, .int p2), (3, .int p3)]) hx hb dX7_gameOn_6 hl (by decide) rfl (fun ls hl => ?_)
  refine lv_aload_n hx hb dX7_gameOn_8 rfl (lv_at hl 1 rfl) ?_
  refine lv_iload_n hx hb dX7_gameOn_9 rfl (lv_at hl 2 rfl) ?_
  refine lv_iload_n hx hb dX7_gameOn_10 rfl (lv_at hl 4 rfl) ?_
  have hrc := va_recv hK hP (ci := 7) (q0 := 0) rfl rfl
  refine zc_i (wc := [zM am f, zA (kk 1) (am 1) 252 st]) (wr := []) (w1 := (fun u : Unit => [zM am f, zA (kk 1) (am 1) 252 st])) (rest := []) [0, 1] [] rfl rfl (by decide) (by decide) (by decide) hA hP hD hS (fun hP hD => va_runV (As := [.int p1, .int p3]) (rest := []) ⟨hx, hb, hml, hown, hts⟩ (metX7_playsOn l D kk am _ f st p1 p3 _ h) (cwV 2 hts (lw_V q1109 q1111 qs46 q71 q1112) rfl rfl rfl pdX7_playsOn ⟨(Nat.le_of_ble_eq_true rfl), (Nat.le_of_ble_eq_true rfl)⟩) (zp_V hK hN hrc hP hD) rfl rfl hl.1 rfl (lv_room (Nat.le_of_ble_eq_true rfl)) dX7_gameOn_11 ⟨(Nat.le_of_ble_eq_true rfl), (Nat.le_of_ble_eq_true rfl)⟩) (fun r_2 u H locs h hP hD hS => ?_)
  try dsimp only at h
  have hP : va_P D vwCl [zM am f, zA (kk 1) (am 1) 252 st] H := hP
  have hD : va_D A [zM am f, zA (kk 1) (am 1) 252 st] := hD
  refine lv_istore (lv' := [(5, .int r_2), (4, .int r_1), (0, .ref (am 0)), (1, .int p1), (2, .int p2), (3, .int p3)]) hx hb dX7_gameOn_14 hl (by decide) rfl (fun ls hl => ?_)
  refine lv_iload hx hb dX7_gameOn_16 (lv_at hl 1 rfl) ?_
  refine lv_iload hx hb dX7_gameOn_18 (lv_at hl 0 rfl) ?_
  refine lv_icmp_ge (tgt := 27) hx hb dX7_gameOn_20 (by decide) (fun c_3 => ?_) (fun c_3 => ?_)
  · have h := h.1 c_3
    refine lv_iload hx hb dX7_gameOn_27 (lv_at hl 0 rfl) ?_
    refine lv_iload hx hb dX7_gameOn_29 (lv_at hl 1 rfl) ?_
    refine lv_icmp_ge (tgt := 38) hx hb dX7_gameOn_31 (by decide) (fun c_4 => ?_) (fun c_4 => ?_)
    · have h := h.1 c_4
      refine lv_bipush (v := (-4 : Int32)) hx hb dX7_gameOn_38 (by decide) ?_
      exact zr_i hx hb hr hlk rfl hP hD hS () [0, 1] rfl (by decide) dX7_gameOn_40 h
    · have h := h.2 c_4
      refine lv_iload_n hx hb dX7_gameOn_34 rfl (lv_at hl 5 rfl) ?_
      refine lv_goto (tgt := 40) hx hb dX7_gameOn_35 (by decide) ?_
      exact zr_i hx hb hr hlk rfl hP hD hS () [0, 1] rfl (by decide) dX7_gameOn_40 h
  · have h := h.2 c_3
    refine lv_iload_n hx hb dX7_gameOn_23 rfl (lv_at hl 4 rfl) ?_
    refine lv_goto (tgt := 40) hx hb dX7_gameOn_24 (by decide) ?_
    exact zr_i hx hb hr hlk rfl hP hD hS () [0, 1] rfl (by decide) dX7_gameOn_40 h
def wpX7_playedOn_195 (p1 : Int32) (p2 : Int32) (p3 : Int32) (Q : (Nat → Int32) → (Nat → Int32) → Prop) (f : Nat → Int32) (st : Nat → Int32) (s3 : Int32) (s2 : Int32) (s1 : Int32) : Prop :=
  (vp_in s1 252 ∧ Q (upd f 17 ((f 17) + (1 : Int32))) (upd st s1.toNatClampNeg (s2 - s3)))
def wpX7_playedOn_163 (p1 : Int32) (p2 : Int32) (p3 : Int32) (Q : (Nat → Int32) → (Nat → Int32) → Prop) (f : Nat → Int32) (st : Nat → Int32) (x4 : Int32) (s2 : Int32) (s1 : Int32) : Prop :=
  (vp_in s1 252 ∧ (vp_in ((p1 + (5 : Int32)) + x4) 252 ∧ (vp_in ((p1 + (5 : Int32)) + x4) 252 ∧ ((((upd st s1.toNatClampNeg s2) ((p1 + (5 : Int32)) + x4).toNatClampNeg) ≤ 0 → wpX7_playedOn_195 p1 p2 p3 Q  f (upd st s1.toNatClampNeg s2) (0 : Int32) ((upd st s1.toNatClampNeg s2) ((p1 + (5 : Int32)) + x4).toNatClampNeg) ((p1 + (5 : Int32)) + x4)) ∧ (¬ ((upd st s1.toNatClampNeg s2) ((p1 + (5 : Int32)) + x4).toNatClampNeg) ≤ 0 → wpX7_playedOn_195 p1 p2 p3 Q  f (upd st s1.toNatClampNeg s2) (1 : Int32) ((upd st s1.toNatClampNeg s2) ((p1 + (5 : Int32)) + x4).toNatClampNeg) ((p1 + (5 : Int32)) + x4))))))
def wpX7_playedOn_135 (p1 : Int32) (p2 : Int32) (p3 : Int32) (Q : (Nat → Int32) → (Nat → Int32) → Prop) (f : Nat → Int32) (st : Nat → Int32) (x4 : Int32) (x6 : Int32) (s3 : Int32) (s2 : Int32) (s1 : Int32) : Prop :=
  (vp_in s1 252 ∧ ((x6 ≤ (20 : Int32) → wpX7_playedOn_163 p1 p2 p3 Q  f (upd st s1.toNatClampNeg (s2 + s3)) x4 x6 ((p1 + (5 : Int32)) + (f 16))) ∧ (¬ x6 ≤ (20 : Int32) → wpX7_playedOn_163 p1 p2 p3 Q  f (upd st s1.toNatClampNeg (s2 + s3)) x4 (20 : Int32) ((p1 + (5 : Int32)) + (f 16)))))
def wpX7_playedOn_93 (p1 : Int32) (p2 : Int32) (p3 : Int32) (Q : (Nat → Int32) → (Nat → Int32) → Prop) (f : Nat → Int32) (st : Nat → Int32) (x4 : Int32) (s1 : Int32) (s0 : Int32) : Prop :=
  (vp_in ((p1 + (10 : Int32)) + (f 16)) 252 ∧ (vp_in ((p1 + (10 : Int32)) + (f 16)) 252 ∧ (((99 : Int32) ≤ (st ((p1 + (10 : Int32)) + (f 16)).toNatClampNeg) → wpX7_playedOn_135 p1 p2 p3 Q  f st x4 (s0 + s1) (0 : Int32) (st ((p1 + (10 : Int32)) + (f 16)).toNatClampNeg) ((p1 + (10 : Int32)) + (f 16))) ∧ (¬ (99 : Int32) ≤ (st ((p1 + (10 : Int32)) + (f 16)).toNatClampNeg) → wpX7_playedOn_135 p1 p2 p3 Q  f st x4 (s0 + s1) (1 : Int32) (st ((p1 + (10 : Int32)) + (f 16)).toNatClampNeg) ((p1 + (10 : Int32)) + (f 16))))))
def wpX7_playedOn_44 (p1 : Int32) (p2 : Int32) (p3 : Int32) (Q : (Nat → Int32) → (Nat → Int32) → Prop) (f : Nat → Int32) (st : Nat → Int32) (s0 : Int32) : Prop :=
  (vp_in (p1 + (f 16)) 252 ∧ (∀ x5_3 : Int32, x5_3 = (st (p1 + (f 16)).toNatClampNeg) → (vp_in ((p1 + (5 : Int32)) + (f 16)) 252 ∧ ((x5_3 = (1 : Int32) → wpX7_playedOn_93 p1 p2 p3 Q  f st s0 (2 : Int32) (st ((p1 + (5 : Int32)) + (f 16)).toNatClampNeg)) ∧ (¬ x5_3 = (1 : Int32) → ((x5_3 = (3 : Int32) → wpX7_playedOn_93 p1 p2 p3 Q  f st s0 (0 : Int32) (st ((p1 + (5 : Int32)) + (f 16)).toNatClampNeg)) ∧ (¬ x5_3 = (3 : Int32) → wpX7_playedOn_93 p1 p2 p3 Q  f st s0 (1 : Int32) (st ((p1 + (5 : Int32)) + (f 16)).toNatClampNeg))))))))
def wpX7_playedOn (f : Nat → Int32) (st : Nat → Int32) (p1 : Int32) (p2 : Int32) (p3 : Int32) (Q : (Nat → Int32) → (Nat → Int32) → Prop) : Prop :=
  (wpX7_gameOn st p1 p2 p3 (fun r_1 => ((r_1 = (-4 : Int32) → Q (upd (upd f 16 r_1) 18 ((f 18) + (1 : Int32))) st) ∧ (¬ r_1 = (-4 : Int32) → ((r_1 = p2 → wpX7_playedOn_44 p1 p2 p3 Q  (upd f 16 r_1) st p3) ∧ (¬ r_1 = p2 → wpX7_playedOn_44 p1 p2 p3 Q  (upd f 16 r_1) st p2))))))
set_option maxHeartbeats 4000000 in
theorem metX7_playedOn (l : Launch) (D : va_G) (kk : Nat → ClassId) (am : Nat → Nat) (sz : Nat) (f : Nat → Int32) (st : Nat → Int32) (p1 : Int32) (p2 : Int32) (p3 : Int32) (Q : (Nat → Int32) → (Nat → Int32) → Prop) (h : wpX7_playedOn f st p1 p2 p3 Q) : Met l yX7_playedOn (ws_ yX7_playedOn cX7_playedOn 7 none) { frames := 2, cells := 0, slots := 0, locals := 50 } (va_Pc ([.ref (am 0), .int p1, .int p2, .int p3] : List Value) (zPc D kk [zM am f, zA (kk 1) (am 1) 252 st] sz)) (va_Qv (fun (u : (Nat → Int32) × (Nat → Int32)) => Q u.1 u.2) (zB D (va_A [zM am f, zA (kk 1) (am 1) 252 st] sz) (fun u : (Nat → Int32) × (Nat → Int32) => [zM am u.1, zA (kk 1) (am 1) 252 u.2])) (va_A [zM am f, zA (kk 1) (am 1) 252 st] sz)) 0 0 (va_A [zM am f, zA (kk 1) (am 1) 252 st] sz) := by
  refine zMet (Qc := fun A => va_Qv (fun (u : (Nat → Int32) × (Nat → Int32)) => Q u.1 u.2) (zB D A (fun u : (Nat → Int32) × (Nat → Int32) => [zM am u.1, zA (kk 1) (am 1) 252 u.2])) A) (by decide) (Nat.le_of_ble_eq_true rfl) ?_
  intro p e s m below meth c A X hP hD hS ls hl
  obtain ⟨hx, hb, hr, hml, hown, hts, hlk, hnm, hK, hN, hA⟩ := X
  have hown : s.vm.findClass "LoseLeagueModel" = some m.cls := hown
  have hl : lv_has ls 7 [(0, .ref (am 0)), (1, .int p1), (2, .int p2), (3, .int p3)] := hl
  unfold wpX7_playedOn at h
  refine lv_aload_n hx hb dX7_playedOn_0 rfl (lv_at hl 0 rfl) ?_
  refine lv_aload_n hx hb dX7_playedOn_1 rfl (lv_at hl 0 rfl) ?_
  refine lv_iload_n hx hb dX7_playedOn_2 rfl (lv_at hl 1 rfl) ?_
  refine lv_iload_n hx hb dX7_playedOn_3 rfl (lv_at hl 2 rfl) ?_
  refine lv_iload_n hx hb dX7_playedOn_4 rfl (lv_at hl 3 rfl) ?_
  have hrc := va_recv hK hP (ci := 7) (q0 := 0) rfl rfl
  refine zc_i (wc := [zM am f, zA (kk 1) (am 1) 252 st]) (wr := []) (w1 := (fun u : Unit => [zM am f, zA (kk 1) (am 1) 252 st])) (rest := [.ref (am 0)]) [0, 1] [] rfl rfl (by decide) (by decide) (by decide) hA hP hD hS (fun hP hD => va_runV (As := [.int p1, .int p2, .int p3]) (rest := [.ref (am 0)]) ⟨hx, hb, hml, hown, hts⟩ (metX7_gameOn l D kk am _ f st p1 p2 p3 _ h) (cwV 3 hts (lw_V q1129 q1131 qs49 q71 q1132) rfl rfl rfl pdX7_gameOn ⟨(Nat.le_of_ble_eq_true rfl), (Nat.le_of_ble_eq_true rfl)⟩) (zp_V hK hN hrc hP hD) rfl rfl hl.1 rfl (lv_room (Nat.le_of_ble_eq_true rfl)) dX7_playedOn_5 ⟨(Nat.le_of_ble_eq_true rfl), (Nat.le_of_ble_eq_true rfl)⟩) (fun r_1 u H locs h hP hD hS => ?_)
  try dsimp only at h
  have hP : va_P D vwCl [zM am f, zA (kk 1) (am 1) 252 st] H := hP
  have hD : va_D A [zM am f, zA (kk 1) (am 1) 252 st] := hD
  refine va_put (D := D) (ci := 7) (v := .int r_1) (C := RX7) (T := TX7) (N := 29) hx hb hts in_X7 tyX7 tyX7_ok nmX7 hown hK hP hD hS 0 rfl rfl 16 (Nat.le_of_ble_eq_true rfl) (hts _ q955) (fun _ h9 => h9) rfl (tyX7_ok 16 (Nat.le_of_ble_eq_true rfl)) rfl rfl (Nat.le_of_ble_eq_true rfl) dX7_playedOn_8 (fun H locs hP hD hS => ?_)
  have hP : va_P D vwCl [zM am (upd f 16 r_1), zA (kk 1) (am 1) 252 st] H := hP
  have hD : va_D A [zM am (upd f 16 r_1), zA (kk 1) (am 1) 252 st] := hD
  refine lv_aload_n hx hb dX7_playedOn_11 rfl (lv_at hl 0 rfl) ?_
  refine va_get (D := D) (ci := 7) (v := .int r_1) (C := RX7) (T := TX7) (N := 29) hx hb hts in_X7 hown hK hP 0 rfl rfl 16 (Nat.le_of_ble_eq_true rfl) (hts _ q955) (fun _ h9 => h9) rfl dX7_playedOn_12 ?_
  refine lv_bipush (v := (-4 : Int32)) hx hb dX7_playedOn_15 (by decide) ?_
  refine lv_icmp_ne (tgt := 31) hx hb dX7_playedOn_17 (by decide) (fun c_2 => ?_) (fun c_2 => ?_)
  · have h := h.2 c_2
    refine lv_aload_n hx hb dX7_playedOn_31 rfl (lv_at hl 0 rfl) ?_
    refine va_get (D := D) (ci := 7) (v := .int r_1) (C := RX7) (T := TX7) (N := 29) hx hb hts in_X7 hown hK hP 0 rfl rfl 16 (Nat.le_of_ble_eq_true rfl) (hts _ q955) (fun _ h9 => h9) rfl dX7_playedOn_32 ?_
    refine lv_iload_n hx hb dX7_playedOn_35 rfl (lv_at hl 2 rfl) ?_
    have cut_44 : ∀ (f : Nat → Int32) (st : Nat → Int32) (s0 : Int32), wpX7_playedOn_44 p1 p2 p3 Q  f st s0 → ∀ (H : Heap) (locs : List Loc), va_P D vwCl [zM am f, zA (kk 1) (am 1) 252 st] H → va_D A [zM am f, zA (kk 1) (am 1) 252 st] → va_S A s.heap H locs → ∀ ls : Array Slot, lv_has ls 7 [(0, .ref (am 0)), (1, .int p1)] → W p l e { frames := 2, cells := 0, slots := 0, locals := 50 } s m ([.ref (am 0), .int p1, .int p2, .int p3] : List Value).toArray below meth c H locs 0 0 (MQ below (va_Qv (fun (u : (Nat → Int32) × (Nat → Int32)) => Q u.1 u.2) (zB D A (fun u : (Nat → Int32) × (Nat → Int32) => [zM am u.1, zA (kk 1) (am 1) 252 u.2])) A) ([.ref (am 0), .int p1, .int p2, .int p3] : List Value).toArray s 0 0 A) (F0 m 44 ls [.int s0]) := by
      intro f st s0 h H locs hP hD hS ls hl
      unfold wpX7_playedOn_44 at h
      refine lv_istore (lv' := [(4, .int s0), (0, .ref (am 0)), (1, .int p1)]) hx hb dX7_playedOn_44 hl (by decide) rfl (fun ls hl => ?_)
      refine lv_aload_n hx hb dX7_playedOn_46 rfl (lv_at hl 1 rfl) ?_
      refine va_get (D := D) (ci := 7) (v := .ref (am 1)) (C := RX7) (T := TX7) (N := 29) hx hb hts in_X7 hown hK hP 0 rfl rfl 0 (Nat.le_of_ble_eq_true rfl) (hts _ q939) (fun _ h9 => h9) rfl dX7_playedOn_47 ?_
      refine lv_iload_n hx hb dX7_playedOn_50 rfl (lv_at hl 2 rfl) ?_
      refine lv_aload_n hx hb dX7_playedOn_51 rfl (lv_at hl 1 rfl) ?_
      refine va_get (D := D) (ci := 7) (v := .int (f 16)) (C := RX7) (T := TX7) (N := 29) hx hb hts in_X7 hown hK hP 0 rfl rfl 16 (Nat.le_of_ble_eq_true rfl) (hts _ q955) (fun _ h9 => h9) rfl dX7_playedOn_52 ?_
      refine lv_iadd hx hb dX7_playedOn_55 ?_
      obtain ⟨hin, h⟩ := h
      refine va_iald hx hb hK hP 1 1 rfl rfl hin dX7_playedOn_56 ?_
      refine lv_topi (fun x5_3 ex5_3 => ?_)
      have h := h x5_3 ex5_3
      refine lv_istore (lv' := [(5, .int x5_3), (4, .int s0), (0, .ref (am 0)), (1, .int p1)]) hx hb dX7_playedOn_57 hl (by decide) rfl (fun ls hl => ?_)
      refine lv_aload_n hx hb dX7_playedOn_59 rfl (lv_at hl 2 rfl) ?_
      refine va_get (D := D) (ci := 7) (v := .ref (am 1)) (C := RX7) (T := TX7) (N := 29) hx hb hts in_X7 hown hK hP 0 rfl rfl 0 (Nat.le_of_ble_eq_true rfl) (hts _ q939) (fun _ h9 => h9) rfl dX7_playedOn_60 ?_
      refine lv_iload_n hx hb dX7_playedOn_63 rfl (lv_at hl 3 rfl) ?_
      refine lv_iconst (v := (5 : Int32)) hx hb dX7_playedOn_64 (by decide) ?_
      refine lv_iadd hx hb dX7_playedOn_65 ?_
      refine lv_aload_n hx hb dX7_playedOn_66 rfl (lv_at hl 2 rfl) ?_
      refine va_get (D := D) (ci := 7) (v := .int (f 16)) (C := RX7) (T := TX7) (N := 29) hx hb hts in_X7 hown hK hP 0 rfl rfl 16 (Nat.le_of_ble_eq_true rfl) (hts _ q955) (fun _ h9 => h9) rfl dX7_playedOn_67 ?_
      refine lv_iadd hx hb dX7_playedOn_70 ?_
      obtain ⟨hin, h⟩ := h
      refine va_iald hx hb hK hP 1 1 rfl rfl hin dX7_playedOn_71 ?_
      refine lv_iload hx hb dX7_playedOn_72 (lv_at hl 0 rfl) ?_
      refine lv_iconst (v := (1 : Int32)) hx hb dX7_playedOn_74 (by decide) ?_
      have cut_93 : ∀ (f : Nat → Int32) (st : Nat → Int32) (x4 : Int32) (s1 : Int32) (s0 : Int32), wpX7_playedOn_93 p1 p2 p3 Q  f st x4 s1 s0 → ∀ (H : Heap) (locs : List Loc), va_P D vwCl [zM am f, zA (kk 1) (am 1) 252 st] H → va_D A [zM am f, zA (kk 1) (am 1) 252 st] → va_S A s.heap H locs → ∀ ls : Array Slot, lv_has ls 7 [(4, .int x4), (0, .ref (am 0)), (1, .int p1)] → W p l e { frames := 2, cells := 0, slots := 0, locals := 50 } s m ([.ref (am 0), .int p1, .int p2, .int p3] : List Value).toArray below meth c H locs 0 0 (MQ below (va_Qv (fun (u : (Nat → Int32) × (Nat → Int32)) => Q u.1 u.2) (zB D A (fun u : (Nat → Int32) × (Nat → Int32) => [zM am u.1, zA (kk 1) (am 1) 252 u.2])) A) ([.ref (am 0), .int p1, .int p2, .int p3] : List Value).toArray s 0 0 A) (F0 m 93 ls [.int s1, .int s0]) := by
        intro f st x4 s1 s0 h H locs hP hD hS ls hl
        unfold wpX7_playedOn_93 at h
        refine lv_iadd hx hb dX7_playedOn_93 ?_
        refine lv_istore (lv' := [(6, .int (s0 + s1)), (4, .int x4), (0, .ref (am 0)), (1, .int p1)]) hx hb dX7_playedOn_94 hl (by decide) rfl (fun ls hl => ?_)
        refine lv_aload_n hx hb dX7_playedOn_96 rfl (lv_at hl 2 rfl) ?_
        refine va_get (D := D) (ci := 7) (v := .ref (am 1)) (C := RX7) (T := TX7) (N := 29) hx hb hts in_X7 hown hK hP 0 rfl rfl 0 (Nat.le_of_ble_eq_true rfl) (hts _ q939) (fun _ h9 => h9) rfl dX7_playedOn_97 ?_
        refine lv_iload_n hx hb dX7_playedOn_100 rfl (lv_at hl 3 rfl) ?_
        refine lv_bipush (v := (10 : Int32)) hx hb dX7_playedOn_101 (by decide) ?_
        refine lv_iadd hx hb dX7_playedOn_103 ?_
        refine lv_aload_n hx hb dX7_playedOn_104 rfl (lv_at hl 2 rfl) ?_
        refine va_get (D := D) (ci := 7) (v := .int (f 16)) (C := RX7) (T := TX7) (N := 29) hx hb hts in_X7 hown hK hP 0 rfl rfl 16 (Nat.le_of_ble_eq_true rfl) (hts _ q955) (fun _ h9 => h9) rfl dX7_playedOn_105 ?_
        refine lv_iadd hx hb dX7_playedOn_108 ?_
        refine lv_dup2_11 hx hb dX7_playedOn_109 rfl rfl ?_
        obtain ⟨hin, h⟩ := h
        refine va_iald hx hb hK hP 1 1 rfl rfl hin dX7_playedOn_110 ?_
        refine lv_aload_n hx hb dX7_playedOn_111 rfl (lv_at hl 2 rfl) ?_
        refine va_get (D := D) (ci := 7) (v := .ref (am 1)) (C := RX7) (T := TX7) (N := 29) hx hb hts in_X7 hown hK hP 0 rfl rfl 0 (Nat.le_of_ble_eq_true rfl) (hts _ q939) (fun _ h9 => h9) rfl dX7_playedOn_112 ?_
        refine lv_iload_n hx hb dX7_playedOn_115 rfl (lv_at hl 3 rfl) ?_
        refine lv_bipush (v := (10 : Int32)) hx hb dX7_playedOn_116 (by decide) ?_
        refine lv_iadd hx hb dX7_playedOn_118 ?_
        refine lv_aload_n hx hb dX7_playedOn_119 rfl (lv_at hl 2 rfl) ?_
        refine va_get (D := D) (ci := 7) (v := .int (f 16)) (C := RX7) (T := TX7) (N := 29) hx hb hts in_X7 hown hK hP 0 rfl rfl 16 (Nat.le_of_ble_eq_true rfl) (hts _ q955) (fun _ h9 => h9) rfl dX7_playedOn_120 ?_
        refine lv_iadd hx hb dX7_playedOn_123 ?_
        obtain ⟨hin, h⟩ := h
        refine va_iald hx hb hK hP 1 1 rfl rfl hin dX7_playedOn_124 ?_
        refine lv_bipush (v := (99 : Int32)) hx hb dX7_playedOn_125 (by decide) ?_
        have cut_135 : ∀ (f : Nat → Int32) (st : Nat → Int32) (x4 : Int32) (x6 : Int32) (s3 : Int32) (s2 : Int32) (s1 : Int32), wpX7_playedOn_135 p1 p2 p3 Q  f st x4 x6 s3 s2 s1 → ∀ (H : Heap) (locs : List Loc), va_P D vwCl [zM am f, zA (kk 1) (am 1) 252 st] H → va_D A [zM am f, zA (kk 1) (am 1) 252 st] → va_S A s.heap H locs → ∀ ls : Array Slot, lv_has ls 7 [(4, .int x4), (6, .int x6), (0, .ref (am 0)), (1, .int p1)] → W p l e { frames := 2, cells := 0, slots := 0, locals := 50 } s m ([.ref (am 0), .int p1, .int p2, .int p3] : List Value).toArray below meth c H locs 0 0 (MQ below (va_Qv (fun (u : (Nat → Int32) × (Nat → Int32)) => Q u.1 u.2) (zB D A (fun u : (Nat → Int32) × (Nat → Int32) => [zM am u.1, zA (kk 1) (am 1) 252 u.2])) A) ([.ref (am 0), .int p1, .int p2, .int p3] : List Value).toArray s 0 0 A) (F0 m 135 ls [.int s3, .int s2, .int s1, .ref (am 1)]) := by
          intro f st x4 x6 s3 s2 s1 h H locs hP hD hS ls hl
          unfold wpX7_playedOn_135 at h
          refine lv_iadd hx hb dX7_playedOn_135 ?_
          obtain ⟨hin, h⟩ := h
          refine va_iast hx hb hK hP hD hS 1 1 rfl rfl hin dX7_playedOn_136 (fun H locs hP hD hS => ?_)
          have hP : va_P D vwCl [zM am f, zA (kk 1) (am 1) 252 (upd st s1.toNatClampNeg (s2 + s3))] H := hP
          have hD : va_D A [zM am f, zA (kk 1) (am 1) 252 (upd st s1.toNatClampNeg (s2 + s3))] := hD
          refine lv_aload_n hx hb dX7_playedOn_137 rfl (lv_at hl 2 rfl) ?_
          refine va_get (D := D) (ci := 7) (v := .ref (am 1)) (C := RX7) (T := TX7) (N := 29) hx hb hts in_X7 hown hK hP 0 rfl rfl 0 (Nat.le_of_ble_eq_true rfl) (hts _ q939) (fun _ h9 => h9) rfl dX7_playedOn_138 ?_
          refine lv_iload_n hx hb dX7_playedOn_141 rfl (lv_at hl 3 rfl) ?_
          refine lv_iconst (v := (5 : Int32)) hx hb dX7_playedOn_142 (by decide) ?_
          refine lv_iadd hx hb dX7_playedOn_143 ?_
          refine lv_aload_n hx hb dX7_playedOn_144 rfl (lv_at hl 2 rfl) ?_
          refine va_get (D := D) (ci := 7) (v := .int (f 16)) (C := RX7) (T := TX7) (N := 29) hx hb hts in_X7 hown hK hP 0 rfl rfl 16 (Nat.le_of_ble_eq_true rfl) (hts _ q955) (fun _ h9 => h9) rfl dX7_playedOn_145 ?_
          refine lv_iadd hx hb dX7_playedOn_148 ?_
          refine lv_iload hx hb dX7_playedOn_149 (lv_at hl 1 rfl) ?_
          refine lv_bipush (v := (20 : Int32)) hx hb dX7_playedOn_151 (by decide) ?_
          have cut_163 : ∀ (f : Nat → Int32) (st : Nat → Int32) (x4 : Int32) (s2 : Int32) (s1 : Int32), wpX7_playedOn_163 p1 p2 p3 Q  f st x4 s2 s1 → ∀ (H : Heap) (locs : List Loc), va_P D vwCl [zM am f, zA (kk 1) (am 1) 252 st] H → va_D A [zM am f, zA (kk 1) (am 1) 252 st] → va_S A s.heap H locs → ∀ ls : Array Slot, lv_has ls 7 [(4, .int x4), (0, .ref (am 0)), (1, .int p1)] → W p l e { frames := 2, cells := 0, slots := 0, locals := 50 } s m ([.ref (am 0), .int p1, .int p2, .int p3] : List Value).toArray below meth c H locs 0 0 (MQ below (va_Qv (fun (u : (Nat → Int32) × (Nat → Int32)) => Q u.1 u.2) (zB D A (fun u : (Nat → Int32) × (Nat → Int32) => [zM am u.1, zA (kk 1) (am 1) 252 u.2])) A) ([.ref (am 0), .int p1, .int p2, .int p3] : List Value).toArray s 0 0 A) (F0 m 163 ls [.int s2, .int s1, .ref (am 1)]) := by
            intro f st x4 s2 s1 h H locs hP hD hS ls hl
            unfold wpX7_playedOn_163 at h
            obtain ⟨hin, h⟩ := h
            refine va_iast hx hb hK hP hD hS 1 1 rfl rfl hin dX7_playedOn_163 (fun H locs hP hD hS => ?_)
            have hP : va_P D vwCl [zM am f, zA (kk 1) (am 1) 252 (upd st s1.toNatClampNeg s2)] H := hP
            have hD : va_D A [zM am f, zA (kk 1) (am 1) 252 (upd st s1.toNatClampNeg s2)] := hD
            refine lv_aload_n hx hb dX7_playedOn_164 rfl (lv_at hl 1 rfl) ?_
            refine va_get (D := D) (ci := 7) (v := .ref (am 1)) (C := RX7) (T := TX7) (N := 29) hx hb hts in_X7 hown hK hP 0 rfl rfl 0 (Nat.le_of_ble_eq_true rfl) (hts _ q939) (fun _ h9 => h9) rfl dX7_playedOn_165 ?_
            refine lv_iload_n hx hb dX7_playedOn_168 rfl (lv_at hl 2 rfl) ?_
            refine lv_iconst (v := (5 : Int32)) hx hb dX7_playedOn_169 (by decide) ?_
            refine lv_iadd hx hb dX7_playedOn_170 ?_
            refine lv_iload hx hb dX7_playedOn_171 (lv_at hl 0 rfl) ?_
            refine lv_iadd hx hb dX7_playedOn_173 ?_
            refine lv_dup2_11 hx hb dX7_playedOn_174 rfl rfl ?_
            obtain ⟨hin, h⟩ := h
            refine va_iald hx hb hK hP 1 1 rfl rfl hin dX7_playedOn_175 ?_
            refine lv_aload_n hx hb dX7_playedOn_176 rfl (lv_at hl 1 rfl) ?_
            refine va_get (D := D) (ci := 7) (v := .ref (am 1)) (C := RX7) (T := TX7) (N := 29) hx hb hts in_X7 hown hK hP 0 rfl rfl 0 (Nat.le_of_ble_eq_true rfl) (hts _ q939) (fun _ h9 => h9) rfl dX7_playedOn_177 ?_
            refine lv_iload_n hx hb dX7_playedOn_180 rfl (lv_at hl 2 rfl) ?_
            refine lv_iconst (v := (5 : Int32)) hx hb dX7_playedOn_181 (by decide) ?_
            refine lv_iadd hx hb dX7_playedOn_182 ?_
            refine lv_iload hx hb dX7_playedOn_183 (lv_at hl 0 rfl) ?_
            refine lv_iadd hx hb dX7_playedOn_185 ?_
            obtain ⟨hin, h⟩ := h
            refine va_iald hx hb hK hP 1 1 rfl rfl hin dX7_playedOn_186 ?_
            have cut_195 : ∀ (f : Nat → Int32) (st : Nat → Int32) (s3 : Int32) (s2 : Int32) (s1 : Int32), wpX7_playedOn_195 p1 p2 p3 Q  f st s3 s2 s1 → ∀ (H : Heap) (locs : List Loc), va_P D vwCl [zM am f, zA (kk 1) (am 1) 252 st] H → va_D A [zM am f, zA (kk 1) (am 1) 252 st] → va_S A s.heap H locs → ∀ ls : Array Slot, lv_has ls 7 [(0, .ref (am 0))] → W p l e { frames := 2, cells := 0, slots := 0, locals := 50 } s m ([.ref (am 0), .int p1, .int p2, .int p3] : List Value).toArray below meth c H locs 0 0 (MQ below (va_Qv (fun (u : (Nat → Int32) × (Nat → Int32)) => Q u.1 u.2) (zB D A (fun u : (Nat → Int32) × (Nat → Int32) => [zM am u.1, zA (kk 1) (am 1) 252 u.2])) A) ([.ref (am 0), .int p1, .int p2, .int p3] : List Value).toArray s 0 0 A) (F0 m 195 ls [.int s3, .int s2, .int s1, .ref (am 1)]) := by
              intro f st s3 s2 s1 h H locs hP hD hS ls hl
              unfold wpX7_playedOn_195 at h
              refine lv_isub hx hb dX7_playedOn_195 ?_
              obtain ⟨hin, h⟩ := h
              refine va_iast hx hb hK hP hD hS 1 1 rfl rfl hin dX7_playedOn_196 (fun H locs hP hD hS => ?_)
              have hP : va_P D vwCl [zM am f, zA (kk 1) (am 1) 252 (upd st s1.toNatClampNeg (s2 - s3))] H := hP
              have hD : va_D A [zM am f, zA (kk 1) (am 1) 252 (upd st s1.toNatClampNeg (s2 - s3))] := hD
              refine lv_aload_n hx hb dX7_playedOn_197 rfl (lv_at hl 0 rfl) ?_
              refine lv_dup hx hb dX7_playedOn_198 rfl ?_
              refine va_get (D := D) (ci := 7) (v := .int (f 17)) (C := RX7) (T := TX7) (N := 29) hx hb hts in_X7 hown hK hP 0 rfl rfl 17 (Nat.le_of_ble_eq_true rfl) (hts _ q956) (fun _ h9 => h9) rfl dX7_playedOn_199 ?_
              refine lv_iconst (v := (1 : Int32)) hx hb dX7_playedOn_202 (by decide) ?_
              refine lv_iadd hx hb dX7_playedOn_203 ?_
              refine va_put (D := D) (ci := 7) (v := .int ((f 17) + (1 : Int32))) (C := RX7) (T := TX7) (N := 29) hx hb hts in_X7 tyX7 tyX7_ok nmX7 hown hK hP hD hS 0 rfl rfl 17 (Nat.le_of_ble_eq_true rfl) (hts _ q956) (fun _ h9 => h9) rfl (tyX7_ok 17 (Nat.le_of_ble_eq_true rfl)) rfl rfl (Nat.le_of_ble_eq_true rfl) dX7_playedOn_204 (fun H locs hP hD hS => ?_)
              have hP : va_P D vwCl [zM am (upd f 17 ((f 17) + (1 : Int32))), zA (kk 1) (am 1) 252 (upd st s1.toNatClampNeg (s2 - s3))] H := hP
              have hD : va_D A [zM am (upd f 17 ((f 17) + (1 : Int32))), zA (kk 1) (am 1) 252 (upd st s1.toNatClampNeg (s2 - s3))] := hD
              exact zr_v hx hb hr hlk hP hD hS ((upd f 17 ((f 17) + (1 : Int32))), (upd st s1.toNatClampNeg (s2 - s3))) [0, 1] rfl (by decide) dX7_playedOn_207 h
            refine lv_if_le (tgt := 194) hx hb dX7_playedOn_187 (by decide) (fun c_4 => ?_) (fun c_4 => ?_)
            · have h := h.1 c_4
              refine lv_iconst (v := (0 : Int32)) hx hb dX7_playedOn_194 (by decide) ?_
              exact cut_195 f (upd st s1.toNatClampNeg s2) (0 : Int32) ((upd st s1.toNatClampNeg s2) ((p1 + (5 : Int32)) + x4).toNatClampNeg) ((p1 + (5 : Int32)) + x4) h _ _ hP hD hS _ (lv_sub hl [1] rfl)
            · have h := h.2 c_4
              refine lv_iconst (v := (1 : Int32)) hx hb dX7_playedOn_190 (by decide) ?_
              refine lv_goto (tgt := 195) hx hb dX7_playedOn_191 (by decide) ?_
              exact cut_195 f (upd st s1.toNatClampNeg s2) (1 : Int32) ((upd st s1.toNatClampNeg s2) ((p1 + (5 : Int32)) + x4).toNatClampNeg) ((p1 + (5 : Int32)) + x4) h _ _ hP hD hS _ (lv_sub hl [1] rfl)
          refine lv_icmp_le (tgt := 161) hx hb dX7_playedOn_153 (by decide) (fun c_5 => ?_) (fun c_5 => ?_)
          · have h := h.1 c_5
            refine lv_iload hx hb dX7_playedOn_161 (lv_at hl 1 rfl) ?_
            exact cut_163 f (upd st s1.toNatClampNeg (s2 + s3)) x4 x6 ((p1 + (5 : Int32)) + (f 16)) h _ _ hP hD hS _ (lv_sub hl [0, 2, 3] rfl)
          · have h := h.2 c_5
            refine lv_bipush (v := (20 : Int32)) hx hb dX7_playedOn_156 (by decide) ?_
            refine lv_goto (tgt := 163) hx hb dX7_playedOn_158 (by decide) ?_
            exact cut_163 f (upd st s1.toNatClampNeg (s2 + s3)) x4 (20 : Int32) ((p1 + (5 : Int32)) + (f 16)) h _ _ hP hD hS _ (lv_sub hl [0, 2, 3] rfl)
        refine lv_icmp_ge (tgt := 134) hx hb dX7_playedOn_127 (by decide) (fun c_6 => ?_) (fun c_6 => ?_)
        · have h := h.1 c_6
          refine lv_iconst (v := (0 : Int32)) hx hb dX7_playedOn_134 (by decide) ?_
          exact cut_135 f st x4 (s0 + s1) (0 : Int32) (st ((p1 + (10 : Int32)) + (f 16)).toNatClampNeg) ((p1 + (10 : Int32)) + (f 16)) h _ _ hP hD hS _ (lv_sub hl [1, 0, 2, 3] rfl)
        · have h := h.2 c_6
          refine lv_iconst (v := (1 : Int32)) hx hb dX7_playedOn_130 (by decide) ?_
          refine lv_goto (tgt := 135) hx hb dX7_playedOn_131 (by decide) ?_
          exact cut_135 f st x4 (s0 + s1) (1 : Int32) (st ((p1 + (10 : Int32)) + (f 16)).toNatClampNeg) ((p1 + (10 : Int32)) + (f 16)) h _ _ hP hD hS _ (lv_sub hl [1, 0, 2, 3] rfl)
      refine lv_icmp_ne (tgt := 82) hx hb dX7_playedOn_75 (by decide) (fun c_7 => ?_) (fun c_7 => ?_)
      · have h := h.2 c_7
        refine lv_iload hx hb dX7_playedOn_82 (lv_at hl 0 rfl) ?_
        refine lv_iconst (v := (3 : Int32)) hx hb dX7_playedOn_84 (by decide) ?_
        refine lv_icmp_ne (tgt := 92) hx hb dX7_playedOn_85 (by decide) (fun c_8 => ?_) (fun c_8 => ?_)
        · have h := h.2 c_8
          refine lv_iconst (v := (1 : Int32)) hx hb dX7_playedOn_92 (by decide) ?_
          exact cut_93 f st s0 (1 : Int32) (st ((p1 + (5 : Int32)) + (f 16)).toNatClampNeg) h _ _ hP hD hS _ (lv_sub hl [1, 2, 3] rfl)
        · have h := h.1 c_8
          refine lv_iconst (v := (0 : Int32)) hx hb dX7_playedOn_88 (by decide) ?_
          refine lv_goto (tgt := 93) hx hb dX7_playedOn_89 (by decide) ?_
          exact cut_93 f st s0 (0 : Int32) (st ((p1 + (5 : Int32)) + (f 16)).toNatClampNeg) h _ _ hP hD hS _ (lv_sub hl [1, 2, 3] rfl)
      · have h := h.1 c_7
        refine lv_iconst (v := (2 : Int32)) hx hb dX7_playedOn_78 (by decide) ?_
        refine lv_goto (tgt := 93) hx hb dX7_playedOn_79 (by decide) ?_
        exact cut_93 f st s0 (2 : Int32) (st ((p1 + (5 : Int32)) + (f 16)).toNatClampNeg) h _ _ hP hD hS _ (lv_sub hl [1, 2, 3] rfl)
    refine lv_icmp_ne (tgt := 43) hx hb dX7_playedOn_36 (by decide) (fun c_9 => ?_) (fun c_9 => ?_)
    · have h := h.2 c_9
      refine lv_iload_n hx hb dX7_playedOn_43 rfl (lv_at hl 2 rfl) ?_
      exact cut_44 (upd f 16 r_1) st p2 h _ _ hP hD hS _ (lv_sub hl [0, 1] rfl)
    · have h := h.1 c_9
      refine lv_iload_n hx hb dX7_playedOn_39 rfl (lv_at hl 3 rfl) ?_
      refine lv_goto (tgt := 44) hx hb dX7_playedOn_40 (by decide) ?_
      exact cut_44 (upd f 16 r_1) st p3 h _ _ hP hD hS _ (lv_sub hl [0, 1] rfl)
  · have h := h.1 c_2
    refine lv_aload_n hx hb dX7_playedOn_20 rfl (lv_at hl 0 rfl) ?_
    refine lv_dup hx hb dX7_playedOn_21 rfl ?_
    refine va_get (D := D) (ci := 7) (v := .int (f 18)) (C := RX7) (T := TX7) (N := 29) hx hb hts in_X7 hown hK hP 0 rfl rfl 18 (Nat.le_of_ble_eq_true rfl) (hts _ q957) (fun _ h9 => h9) rfl dX7_playedOn_22 ?_
    refine lv_iconst (v := (1 : Int32)) hx hb dX7_playedOn_25 (by decide) ?_
    refine lv_iadd hx hb dX7_playedOn_26 ?_
    refine va_put (D := D) (ci := 7) (v := .int ((f 18) + (1 : Int32))) (C := RX7) (T := TX7) (N := 29) hx hb hts in_X7 tyX7 tyX7_ok nmX7 hown hK hP hD hS 0 rfl rfl 18 (Nat.le_of_ble_eq_true rfl) (hts _ q957) (fun _ h9 => h9) rfl (tyX7_ok 18 (Nat.le_of_ble_eq_true rfl)) rfl rfl (Nat.le_of_ble_eq_true rfl) dX7_playedOn_27 (fun H locs hP hD hS => ?_)
    have hP : va_P D vwCl [zM am (upd (upd f 16 r_1) 18 ((f 18) + (1 : Int32))), zA (kk 1) (am 1) 252 st] H := hP
    have hD : va_D A [zM am (upd (upd f 16 r_1) 18 ((f 18) + (1 : Int32))), zA (kk 1) (am 1) 252 st] := hD
    exact zr_v hx hb hr hlk hP hD hS ((upd (upd f 16 r_1) 18 ((f 18) + (1 : Int32))), st) [0, 1] rfl (by decide) dX7_playedOn_30 h
def wpX7_placeOn (st : Nat → Int32) (p1 : Int32) (Q : Int32 → Prop) : Prop :=
  (vp_in (p1 + (40 : Int32)) 252 ∧ (((st (p1 + (40 : Int32)).toNatClampNeg) = 0 → Q (-4 : Int32)) ∧ (¬ (st (p1 + (40 : Int32)).toNatClampNeg) = 0 → (vp_in (p1 + (41 : Int32)) 252 ∧ (vp_in (p1 + (40 : Int32)) 252 ∧ ((¬ (st (p1 + (40 : Int32)).toNatClampNeg) = 0) ∧ Q ((st (p1 + (41 : Int32)).toNatClampNeg) - (st (p1 + (41 : Int32)).toNatClampNeg) / (st (p1 + (40 : Int32)).toNatClampNeg) * (st (p1 + (40 : Int32)).toNatClampNeg))))))))
set_option maxHeartbeats 4000000 in
theorem metX7_placeOn (l : Launch) (D : va_G) (kk : Nat → ClassId) (am : Nat → Nat) (sz : Nat) (f : Nat → Int32) (st : Nat → Int32) (p1 : Int32) (Q : Int32 → Prop) (h : wpX7_placeOn st p1 Q) : Met l yX7_placeOn (ws_ yX7_placeOn cX7_placeOn 2 (some .int)) { frames := 0, cells := 0, slots := 0, locals := 0 } (va_Pc ([.ref (am 0), .int p1] : List Value) (zPc D kk [zM am f, zA (kk 1) (am 1) 252 st] sz)) (va_Qi (fun (r : Int32) (u : Unit) => Q r ) (zB D (va_A [zM am f, zA (kk 1) (am 1) 252 st] sz) (fun u : Unit => [zM am f, zA (kk 1) (am 1) 252 st])) (va_A [zM am f, zA (kk 1) (am 1) 252 st] sz)) 0 0 (va_A [zM am f, zA (kk 1) (am 1) 252 st] sz) := by
  refine zMet (Qc := fun A => va_Qi (fun (r : Int32) (u : Unit) => Q r ) (zB D A (fun u : Unit => [zM am f, zA (kk 1) (am 1) 252 st])) A) (by decide) (Nat.le_of_ble_eq_true rfl) ?_
  intro p e s m below meth c A X hP hD hS ls hl
  obtain ⟨hx, hb, hr, hml, hown, hts, hlk, hnm, hK, hN, hA⟩ := X
  have hown : s.vm.findClass "LoseLeagueModel" = some m.cls := hown
  have hl : lv_has ls 2 [(0, .ref (am 0)), (1, .int p1)] := hl
  unfold wpX7_placeOn at h
  refine lv_aload_n hx hb dX7_placeOn_0 rfl (lv_at hl 0 rfl) ?_
  refine va_get (D := D) (ci := 7) (v := .ref (am 1)) (C := RX7) (T := TX7) (N := 29) hx hb hts in_X7 hown hK hP 0 rfl rfl 0 (Nat.le_of_ble_eq_true rfl) (hts _ q939) (fun _ h9 => h9) rfl dX7_placeOn_1 ?_
  refine lv_iload_n hx hb dX7_placeOn_4 rfl (lv_at hl 1 rfl) ?_
  refine lv_bipush (v := (40 : Int32)) hx hb dX7_placeOn_5 (by decide) ?_
  refine lv_iadd hx hb dX7_placeOn_7 ?_
  obtain ⟨hin, h⟩ := h
  refine va_iald hx hb hK hP 1 1 rfl rfl hin dX7_placeOn_8 ?_
  refine lv_if_ne (tgt := 17) hx hb dX7_placeOn_9 (by decide) (fun c_1 => ?_) (fun c_1 => ?_)
  · have h := h.2 c_1
    refine lv_aload_n hx hb dX7_placeOn_17 rfl (lv_at hl 0 rfl) ?_
    refine va_get (D := D) (ci := 7) (v := .ref (am 1)) (C := RX7) (T := TX7) (N := 29) hx hb hts in_X7 hown hK hP 0 rfl rfl 0 (Nat.le_of_ble_eq_true rfl) (hts _ q939) (fun _ h9 => h9) rfl dX7_placeOn_18 ?_
    refine lv_iload_n hx hb dX7_placeOn_21 rfl (lv_at hl 1 rfl) ?_
    refine lv_bipush (v := (41 : Int32)) hx hb dX7_placeOn_22 (by decide) ?_
    refine lv_iadd hx hb dX7_placeOn_24 ?_
    obtain ⟨hin, h⟩ := h
    refine va_iald hx hb hK hP 1 1 rfl rfl hin dX7_placeOn_25 ?_
    refine lv_aload_n hx hb dX7_placeOn_26 rfl (lv_at hl 0 rfl) ?_
    refine va_get (D := D) (ci := 7) (v := .ref (am 1)) (C := RX7) (T := TX7) (N := 29) hx hb hts in_X7 hown hK hP 0 rfl rfl 0 (Nat.le_of_ble_eq_true rfl) (hts _ q939) (fun _ h9 => h9) rfl dX7_placeOn_27 ?_
    refine lv_iload_n hx hb dX7_placeOn_30 rfl (lv_at hl 1 rfl) ?_
    refine lv_bipush (v := (40 : Int32)) hx hb dX7_placeOn_31 (by decide) ?_
    refine lv_iadd hx hb dX7_placeOn_33 ?_
    obtain ⟨hin, h⟩ := h
    refine va_iald hx hb hK hP 1 1 rfl rfl hin dX7_placeOn_34 ?_
    obtain ⟨hne, h⟩ := h
    refine lv_irem hx hb dX7_placeOn_35 hne ?_
    exact zr_i hx hb hr hlk rfl hP hD hS () [0, 1] rfl (by decide) dX7_placeOn_36 h
  · have h := h.1 c_1
    refine lv_bipush (v := (-4 : Int32)) hx hb dX7_placeOn_12 (by decide) ?_
    refine lv_goto (tgt := 36) hx hb dX7_placeOn_14 (by decide) ?_
    exact zr_i hx hb hr hlk rfl hP hD hS () [0, 1] rfl (by decide) dX7_placeOn_36 h
def wpX7_yearsEnd_67 (f : Nat → Int32) (p1 : Int32) (Q : (Nat → Int32) → Prop) (k2 : (Nat → Int32) → Int32 → Prop) (st : Nat → Int32) (x2 : Int32) (s3 : Int32) (s2 : Int32) (s1 : Int32) : Prop :=
  (vp_in s1 252 ∧ (vp_in ((p1 + (10 : Int32)) + x2) 252 ∧ k2 (upd (upd st s1.toNatClampNeg (s2 + s3)) ((p1 + (10 : Int32)) + x2).toNatClampNeg (0 : Int32)) (x2 + 1)))
def wpX7_yearsEnd_45 (f : Nat → Int32) (p1 : Int32) (Q : (Nat → Int32) → Prop) (k2 : (Nat → Int32) → Int32 → Prop) (st : Nat → Int32) (x2 : Int32) (s0 : Int32) : Prop :=
  (vp_in ((p1 + (15 : Int32)) + x2) 252 ∧ ((s0 = 0 → wpX7_yearsEnd_67 f p1 Q k2 st x2 (0 : Int32) (st ((p1 + (15 : Int32)) + x2).toNatClampNeg) ((p1 + (15 : Int32)) + x2)) ∧ (¬ s0 = 0 → wpX7_yearsEnd_67 f p1 Q k2 st x2 (1 : Int32) (st ((p1 + (15 : Int32)) + x2).toNatClampNeg) ((p1 + (15 : Int32)) + x2))))
def wpX7_yearsEnd_44 (f : Nat → Int32) (p1 : Int32) (Q : (Nat → Int32) → Prop) (k2 : (Nat → Int32) → Int32 → Prop) (st : Nat → Int32) (x2 : Int32) : Prop :=
  wpX7_yearsEnd_45 f p1 Q k2 st x2 (0 : Int32)
def wbX7_yearsEnd_2 (f : Nat → Int32) (p1 : Int32) (Q : (Nat → Int32) → Prop) (k2 : (Nat → Int32) → Int32 → Prop) (st : Nat → Int32) (x2 : Int32) : Prop :=
  (((f 1) ≤ x2 → Q st) ∧ (¬ (f 1) ≤ x2 → (vp_in ((p1 + (10 : Int32)) + x2) 252 ∧ (((st ((p1 + (10 : Int32)) + x2).toNatClampNeg) = 0 → (vp_in ((p1 + (15 : Int32)) + x2) 252 ∧ (((99 : Int32) ≤ (st ((p1 + (15 : Int32)) + x2).toNatClampNeg) → wpX7_yearsEnd_44 f p1 Q k2 st x2) ∧ (¬ (99 : Int32) ≤ (st ((p1 + (15 : Int32)) + x2).toNatClampNeg) → wpX7_yearsEnd_45 f p1 Q k2 st x2 (1 : Int32))))) ∧ (¬ (st ((p1 + (10 : Int32)) + x2).toNatClampNeg) = 0 → wpX7_yearsEnd_44 f p1 Q k2 st x2)))))
def wpX7_yearsEnd_2 (f : Nat → Int32) (p1 : Int32) (Q : (Nat → Int32) → Prop) (n : Nat) : (Nat → Int32) → Int32 → Prop :=
  Nat.rec (motive := fun _ => (Nat → Int32) → Int32 → Prop) (fun _ _ => False) (fun _ k => wbX7_yearsEnd_2 f p1 Q  k) n
def wpX7_yearsEnd (f : Nat → Int32) (st : Nat → Int32) (p1 : Int32) (Q : (Nat → Int32) → Prop) : Prop :=
  (∃ n : Nat, wpX7_yearsEnd_2 f p1 Q  n st (0 : Int32))
set_option maxHeartbeats 4000000 in
theorem metX7_yearsEnd (l : Launch) (D : va_G) (kk : Nat → ClassId) (am : Nat → Nat) (sz : Nat) (f : Nat → Int32) (st : Nat → Int32) (p1 : Int32) (Q : (Nat → Int32) → Prop) (h : wpX7_yearsEnd f st p1 Q) : Met l yX7_yearsEnd (ws_ yX7_yearsEnd cX7_yearsEnd 4 none) { frames := 0, cells := 0, slots := 0, locals := 0 } (va_Pc ([.ref (am 0), .int p1] : List Value) (zPc D kk [zM am f, zA (kk 1) (am 1) 252 st] sz)) (va_Qv (fun (u : (Nat → Int32)) => Q u) (zB D (va_A [zM am f, zA (kk 1) (am 1) 252 st] sz) (fun u : (Nat → Int32) => [zM am f, zA (kk 1) (am 1) 252 u])) (va_A [zM am f, zA (kk 1) (am 1) 252 st] sz)) 0 0 (va_A [zM am f, zA (kk 1) (am 1) 252 st] sz) := by
  refine zMet (Qc := fun A => va_Qv (fun (u : (Nat → Int32)) => Q u) (zB D A (fun u : (Nat → Int32) => [zM am f, zA (kk 1) (am 1) 252 u])) A) (by decide) (Nat.le_of_ble_eq_true rfl) ?_
  intro p e s m below meth c A X hP hD hS ls hl
  obtain ⟨hx, hb, hr, hml, hown, hts, hlk, hnm, hK, hN, hA⟩ := X
  have hown : s.vm.findClass "LoseLeagueModel" = some m.cls := hown
  have hl : lv_has ls 4 [(0, .ref (am 0)), (1, .int p1)] := hl
  unfold wpX7_yearsEnd at h
  refine lv_iconst (v := (0 : Int32)) hx hb dX7_yearsEnd_0 (by decide) ?_
  have cut_2 : ∀ (nl2 : Nat) (st : Nat → Int32) (x2 : Int32), wpX7_yearsEnd_2 f p1 Q  nl2 st x2 → ∀ (H : Heap) (locs : List Loc), va_P D vwCl [zM am f, zA (kk 1) (am 1) 252 st] H → va_D A [zM am f, zA (kk 1) (am 1) 252 st] → va_S A s.heap H locs → ∀ ls : Array Slot, lv_has ls 4 [(2, .int x2), (0, .ref (am 0)), (1, .int p1)] → W p l e { frames := 0, cells := 0, slots := 0, locals := 0 } s m ([.ref (am 0), .int p1] : List Value).toArray below meth c H locs 0 0 (MQ below (va_Qv (fun (u : (Nat → Int32)) => Q u) (zB D A (fun u : (Nat → Int32) => [zM am f, zA (kk 1) (am 1) 252 u])) A) ([.ref (am 0), .int p1] : List Value).toArray s 0 0 A) (F0 m 2 ls []) := by
    intro nl2
    induction nl2 with
    | zero => intro st x2 h; exact absurd h id
    | succ nl2 ih_2 =>
      intro st x2 h H locs hP hD hS ls hl
      have h : wbX7_yearsEnd_2 f p1 Q  (wpX7_yearsEnd_2 f p1 Q  nl2) st x2 := h
      unfold wbX7_yearsEnd_2 at h
      refine lv_iload_n hx hb dX7_yearsEnd_2 rfl (lv_at hl 0 rfl) ?_
      refine lv_aload_n hx hb dX7_yearsEnd_3 rfl (lv_at hl 1 rfl) ?_
      refine va_get (D := D) (ci := 7) (v := .int (f 1)) (C := RX7) (T := TX7) (N := 29) hx hb hts in_X7 hown hK hP 0 rfl rfl 1 (Nat.le_of_ble_eq_true rfl) (hts _ q940) (fun _ h9 => h9) rfl dX7_yearsEnd_4 ?_
      refine lv_icmp_ge (tgt := 87) hx hb dX7_yearsEnd_7 (by decide) (fun c_1 => ?_) (fun c_1 => ?_)
      · have h := h.1 c_1
        exact zr_v hx hb hr hlk hP hD hS (st) [0, 1] rfl (by decide) dX7_yearsEnd_87 h
      · have h := h.2 c_1
        refine lv_aload_n hx hb dX7_yearsEnd_10 rfl (lv_at hl 1 rfl) ?_
        refine va_get (D := D) (ci := 7) (v := .ref (am 1)) (C := RX7) (T := TX7) (N := 29) hx hb hts in_X7 hown hK hP 0 rfl rfl 0 (Nat.le_of_ble_eq_true rfl) (hts _ q939) (fun _ h9 => h9) rfl dX7_yearsEnd_11 ?_
        refine lv_iload_n hx hb dX7_yearsEnd_14 rfl (lv_at hl 2 rfl) ?_
        refine lv_bipush (v := (10 : Int32)) hx hb dX7_yearsEnd_15 (by decide) ?_
        refine lv_iadd hx hb dX7_yearsEnd_17 ?_
        refine lv_iload_n hx hb dX7_yearsEnd_18 rfl (lv_at hl 0 rfl) ?_
        refine lv_iadd hx hb dX7_yearsEnd_19 ?_
        obtain ⟨hin, h⟩ := h
        refine va_iald hx hb hK hP 1 1 rfl rfl hin dX7_yearsEnd_20 ?_
        have cut_45 : ∀ (st : Nat → Int32) (x2 : Int32) (s0 : Int32), wpX7_yearsEnd_45 f p1 Q (wpX7_yearsEnd_2 f p1 Q  nl2) st x2 s0 → ∀ (H : Heap) (locs : List Loc), va_P D vwCl [zM am f, zA (kk 1) (am 1) 252 st] H → va_D A [zM am f, zA (kk 1) (am 1) 252 st] → va_S A s.heap H locs → ∀ ls : Array Slot, lv_has ls 4 [(2, .int x2), (0, .ref (am 0)), (1, .int p1)] → W p l e { frames := 0, cells := 0, slots := 0, locals := 0 } s m ([.ref (am 0), .int p1] : List Value).toArray below meth c H locs 0 0 (MQ below (va_Qv (fun (u : (Nat → Int32)) => Q u) (zB D A (fun u : (Nat → Int32) => [zM am f, zA (kk 1) (am 1) 252 u])) A) ([.ref (am 0), .int p1] : List Value).toArray s 0 0 A) (F0 m 45 ls [.int s0]) := by
          intro st x2 s0 h H locs hP hD hS ls hl
          unfold wpX7_yearsEnd_45 at h
          refine lv_istore_n (lv' := [(3, .int s0), (2, .int x2), (0, .ref (am 0)), (1, .int p1)]) hx hb dX7_yearsEnd_45 rfl hl (by decide) rfl (fun ls hl => ?_)
          refine lv_aload_n hx hb dX7_yearsEnd_46 rfl (lv_at hl 2 rfl) ?_
          refine va_get (D := D) (ci := 7) (v := .ref (am 1)) (C := RX7) (T := TX7) (N := 29) hx hb hts in_X7 hown hK hP 0 rfl rfl 0 (Nat.le_of_ble_eq_true rfl) (hts _ q939) (fun _ h9 => h9) rfl dX7_yearsEnd_47 ?_
          refine lv_iload_n hx hb dX7_yearsEnd_50 rfl (lv_at hl 3 rfl) ?_
          refine lv_bipush (v := (15 : Int32)) hx hb dX7_yearsEnd_51 (by decide) ?_
          refine lv_iadd hx hb dX7_yearsEnd_53 ?_
          refine lv_iload_n hx hb dX7_yearsEnd_54 rfl (lv_at hl 1 rfl) ?_
          refine lv_iadd hx hb dX7_yearsEnd_55 ?_
          refine lv_dup2_11 hx hb dX7_yearsEnd_56 rfl rfl ?_
          obtain ⟨hin, h⟩ := h
          refine va_iald hx hb hK hP 1 1 rfl rfl hin dX7_yearsEnd_57 ?_
          refine lv_iload_n hx hb dX7_yearsEnd_58 rfl (lv_at hl 0 rfl) ?_
          have cut_67 : ∀ (st : Nat → Int32) (x2 : Int32) (s3 : Int32) (s2 : Int32) (s1 : Int32), wpX7_yearsEnd_67 f p1 Q (wpX7_yearsEnd_2 f p1 Q  nl2) st x2 s3 s2 s1 → ∀ (H : Heap) (locs : List Loc), va_P D vwCl [zM am f, zA (kk 1) (am 1) 252 st] H → va_D A [zM am f, zA (kk 1) (am 1) 252 st] → va_S A s.heap H locs → ∀ ls : Array Slot, lv_has ls 4 [(2, .int x2), (0, .ref (am 0)), (1, .int p1)] → W p l e { frames := 0, cells := 0, slots := 0, locals := 0 } s m ([.ref (am 0), .int p1] : List Value).toArray below meth c H locs 0 0 (MQ below (va_Qv (fun (u : (Nat → Int32)) => Q u) (zB D A (fun u : (Nat → Int32) => [zM am f, zA (kk 1) (am 1) 252 u])) A) ([.ref (am 0), .int p1] : List Value).toArray s 0 0 A) (F0 m 67 ls [.int s3, .int s2, .int s1, .ref (am 1)]) := by
            intro st x2 s3 s2 s1 h H locs hP hD hS ls hl
            unfold wpX7_yearsEnd_67 at h
            refine lv_iadd hx hb dX7_yearsEnd_67 ?_
            obtain ⟨hin, h⟩ := h
            refine va_iast hx hb hK hP hD hS 1 1 rfl rfl hin dX7_yearsEnd_68 (fun H locs hP hD hS => ?_)
            have hP : va_P D vwCl [zM am f, zA (kk 1) (am 1) 252 (upd st s1.toNatClampNeg (s2 + s3))] H := hP
            have hD : va_D A [zM am f, zA (kk 1) (am 1) 252 (upd st s1.toNatClampNeg (s2 + s3))] := hD
            refine lv_aload_n hx hb dX7_yearsEnd_69 rfl (lv_at hl 1 rfl) ?_
            refine va_get (D := D) (ci := 7) (v := .ref (am 1)) (C := RX7) (T := TX7) (N := 29) hx hb hts in_X7 hown hK hP 0 rfl rfl 0 (Nat.le_of_ble_eq_true rfl) (hts _ q939) (fun _ h9 => h9) rfl dX7_yearsEnd_70 ?_
            refine lv_iload_n hx hb dX7_yearsEnd_73 rfl (lv_at hl 2 rfl) ?_
            refine lv_bipush (v := (10 : Int32)) hx hb dX7_yearsEnd_74 (by decide) ?_
            refine lv_iadd hx hb dX7_yearsEnd_76 ?_
            refine lv_iload_n hx hb dX7_yearsEnd_77 rfl (lv_at hl 0 rfl) ?_
            refine lv_iadd hx hb dX7_yearsEnd_78 ?_
            refine lv_iconst (v := (0 : Int32)) hx hb dX7_yearsEnd_79 (by decide) ?_
            obtain ⟨hin, h⟩ := h
            refine va_iast hx hb hK hP hD hS 1 1 rfl rfl hin dX7_yearsEnd_80 (fun H locs hP hD hS => ?_)
            have hP : va_P D vwCl [zM am f, zA (kk 1) (am 1) 252 (upd (upd st s1.toNatClampNeg (s2 + s3)) ((p1 + (10 : Int32)) + x2).toNatClampNeg (0 : Int32))] H := hP
            have hD : va_D A [zM am f, zA (kk 1) (am 1) 252 (upd (upd st s1.toNatClampNeg (s2 + s3)) ((p1 + (10 : Int32)) + x2).toNatClampNeg (0 : Int32))] := hD
            refine lv_iinc (v := (x2 + 1)) (lv' := [(2, .int (x2 + 1)), (0, .ref (am 0)), (1, .int p1)]) hx hb dX7_yearsEnd_81 hl (k := 0) rfl rfl (by decide) rfl (fun ls hl => ?_)
            refine lv_goto (tgt := 2) hx hb dX7_yearsEnd_84 (by decide) ?_
            exact ih_2 (upd (upd st s1.toNatClampNeg (s2 + s3)) ((p1 + (10 : Int32)) + x2).toNatClampNeg (0 : Int32)) (x2 + 1) h _ _ hP hD hS _ (lv_sub hl [0, 1, 2] rfl)
          refine lv_if_eq (tgt := 66) hx hb dX7_yearsEnd_59 (by decide) (fun c_2 => ?_) (fun c_2 => ?_)
          · have h := h.1 c_2
            refine lv_iconst (v := (0 : Int32)) hx hb dX7_yearsEnd_66 (by decide) ?_
            exact cut_67 st x2 (0 : Int32) (st ((p1 + (15 : Int32)) + x2).toNatClampNeg) ((p1 + (15 : Int32)) + x2) h _ _ hP hD hS _ (lv_sub hl [1, 2, 3] rfl)
          · have h := h.2 c_2
            refine lv_iconst (v := (1 : Int32)) hx hb dX7_yearsEnd_62 (by decide) ?_
            refine lv_goto (tgt := 67) hx hb dX7_yearsEnd_63 (by decide) ?_
            exact cut_67 st x2 (1 : Int32) (st ((p1 + (15 : Int32)) + x2).toNatClampNeg) ((p1 + (15 : Int32)) + x2) h _ _ hP hD hS _ (lv_sub hl [1, 2, 3] rfl)
        have cut_44 : ∀ (st : Nat → Int32) (x2 : Int32), wpX7_yearsEnd_44 f p1 Q (wpX7_yearsEnd_2 f p1 Q  nl2) st x2 → ∀ (H : Heap) (locs : List Loc), va_P D vwCl [zM am f, zA (kk 1) (am 1) 252 st] H → va_D A [zM am f, zA (kk 1) (am 1) 252 st] → va_S A s.heap H locs → ∀ ls : Array Slot, lv_has ls 4 [(2, .int x2), (0, .ref (am 0)), (1, .int p1)] → W p l e { frames := 0, cells := 0, slots := 0, locals := 0 } s m ([.ref (am 0), .int p1] : List Value).toArray below meth c H locs 0 0 (MQ below (va_Qv (fun (u : (Nat → Int32)) => Q u) (zB D A (fun u : (Nat → Int32) => [zM am f, zA (kk 1) (am 1) 252 u])) A) ([.ref (am 0), .int p1] : List Value).toArray s 0 0 A) (F0 m 44 ls []) := by
          intro st x2 h H locs hP hD hS ls hl
          unfold wpX7_yearsEnd_44 at h
          refine lv_iconst (v := (0 : Int32)) hx hb dX7_yearsEnd_44 (by decide) ?_
          exact cut_45 st x2 (0 : Int32) h _ _ hP hD hS _ (lv_sub hl [0, 1, 2] rfl)
        refine lv_if_ne (tgt := 44) hx hb dX7_yearsEnd_21 (by decide) (fun c_3 => ?_) (fun c_3 => ?_)
        · have h := h.2 c_3
          exact cut_44 st x2 h _ _ hP hD hS _ (lv_sub hl [0, 1, 2] rfl)
        · have h := h.1 c_3
          refine lv_aload_n hx hb dX7_yearsEnd_24 rfl (lv_at hl 1 rfl) ?_
          refine va_get (D := D) (ci := 7) (v := .ref (am 1)) (C := RX7) (T := TX7) (N := 29) hx hb hts in_X7 hown hK hP 0 rfl rfl 0 (Nat.le_of_ble_eq_true rfl) (hts _ q939) (fun _ h9 => h9) rfl dX7_yearsEnd_25 ?_
          refine lv_iload_n hx hb dX7_yearsEnd_28 rfl (lv_at hl 2 rfl) ?_
          refine lv_bipush (v := (15 : Int32)) hx hb dX7_yearsEnd_29 (by decide) ?_
          refine lv_iadd hx hb dX7_yearsEnd_31 ?_
          refine lv_iload_n hx hb dX7_yearsEnd_32 rfl (lv_at hl 0 rfl) ?_
          refine lv_iadd hx hb dX7_yearsEnd_33 ?_
          obtain ⟨hin, h⟩ := h
          refine va_iald hx hb hK hP 1 1 rfl rfl hin dX7_yearsEnd_34 ?_
          refine lv_bipush (v := (99 : Int32)) hx hb dX7_yearsEnd_35 (by decide) ?_
          refine lv_icmp_ge (tgt := 44) hx hb dX7_yearsEnd_37 (by decide) (fun c_4 => ?_) (fun c_4 => ?_)
          · have h := h.1 c_4
            exact cut_44 st x2 h _ _ hP hD hS _ (lv_sub hl [0, 1, 2] rfl)
          · have h := h.2 c_4
            refine lv_iconst (v := (1 : Int32)) hx hb dX7_yearsEnd_40 (by decide) ?_
            refine lv_goto (tgt := 45) hx hb dX7_yearsEnd_41 (by decide) ?_
            exact cut_45 st x2 (1 : Int32) h _ _ hP hD hS _ (lv_sub hl [0, 1, 2] rfl)
  refine lv_istore_n (lv' := [(2, .int (0 : Int32)), (0, .ref (am 0)), (1, .int p1)]) hx hb dX7_yearsEnd_1 rfl hl (by decide) rfl (fun ls hl => ?_)
  obtain ⟨n_2, h⟩ := h
  exact cut_2 n_2 st (0 : Int32) h _ _ hP hD hS _ (lv_sub hl [0, 1, 2] rfl)
def wpX7_weekOn_83 (p1 : Int32) (p2 : Int32) (Q : (Nat → Int32) → (Nat → Int32) → Prop) (f : Nat → Int32) (st : Nat → Int32) : Prop :=
  (vp_in (p1 + (41 : Int32)) 252 ∧ (∀ v_2 : Int32, v_2 = ((st (p1 + (41 : Int32)).toNatClampNeg) + (1 : Int32)) → (vp_in (p1 + (41 : Int32)) 252 ∧ Q f (upd st (p1 + (41 : Int32)).toNatClampNeg v_2))))
def wpX7_weekOn_57 (p1 : Int32) (p2 : Int32) (Q : (Nat → Int32) → (Nat → Int32) → Prop) (f : Nat → Int32) (st : Nat → Int32) (x3 : Int32) : Prop :=
  ((x3 = (-4 : Int32) → wpX7_weekOn_83 p1 p2 Q  f st) ∧ (¬ x3 = (-4 : Int32) → (vp_in (p1 + (40 : Int32)) 252 ∧ ((x3 = ((st (p1 + (40 : Int32)).toNatClampNeg) - (1 : Int32)) → (wpX7_yearsEnd f st p1 (fun st_6 => wpX7_weekOn_83 p1 p2 Q  f st_6))) ∧ (¬ x3 = ((st (p1 + (40 : Int32)).toNatClampNeg) - (1 : Int32)) → wpX7_weekOn_83 p1 p2 Q  f st)))))
def wpX7_weekOn (f : Nat → Int32) (st : Nat → Int32) (p1 : Int32) (p2 : Int32) (Q : (Nat → Int32) → (Nat → Int32) → Prop) : Prop :=
  (wpX7_placeOn st p1 (fun r_1 => ((r_1 = (-4 : Int32) → wpX7_weekOn_57 p1 p2 Q  (upd f 16 (-4 : Int32)) st r_1) ∧ (¬ r_1 = (-4 : Int32) → ((r_1 = (f 19) → wpX7_weekOn_57 p1 p2 Q  (upd f 16 (-4 : Int32)) st r_1) ∧ (¬ r_1 = (f 19) → ((p2 = 0 → (vp_in ((p1 + (20 : Int32)) + r_1) 252 ∧ (vp_in ((p1 + (30 : Int32)) + r_1) 252 ∧ (wpX7_playedOn (upd f 16 (-4 : Int32)) st p1 (st ((p1 + (20 : Int32)) + r_1).toNatClampNeg) (st ((p1 + (30 : Int32)) + r_1).toNatClampNeg) (fun f_11 st_12 => wpX7_weekOn_57 p1 p2 Q  f_11 st_12 r_1))))) ∧ (¬ p2 = 0 → wpX7_weekOn_57 p1 p2 Q  (upd f 16 (-4 : Int32)) st r_1))))))))
set_option maxHeartbeats 4000000 in
theorem metX7_weekOn (l : Launch) (D : va_G) (kk : Nat → ClassId) (am : Nat → Nat) (sz : Nat) (f : Nat → Int32) (st : Nat → Int32) (p1 : Int32) (p2 : Int32) (Q : (Nat → Int32) → (Nat → Int32) → Prop) (h : wpX7_weekOn f st p1 p2 Q) : Met l yX7_weekOn (ws_ yX7_weekOn cX7_weekOn 4 none) { frames := 3, cells := 0, slots := 0, locals := 76 } (va_Pc ([.ref (am 0), .int p1, .int p2] : List Value) (zPc D kk [zM am f, zA (kk 1) (am 1) 252 st] sz)) (va_Qv (fun (u : (Nat → Int32) × (Nat → Int32)) => Q u.1 u.2) (zB D (va_A [zM am f, zA (kk 1) (am 1) 252 st] sz) (fun u : (Nat → Int32) × (Nat → Int32) => [zM am u.1, zA (kk 1) (am 1) 252 u.2])) (va_A [zM am f, zA (kk 1) (am 1) 252 st] sz)) 0 0 (va_A [zM am f, zA (kk 1) (am 1) 252 st] sz) := by
  refine zMet (Qc := fun A => va_Qv (fun (u : (Nat → Int32) × (Nat → Int32)) => Q u.1 u.2) (zB D A (fun u : (Nat → Int32) × (Nat → Int32) => [zM am u.1, zA (kk 1) (am 1) 252 u.2])) A) (by decide) (Nat.le_of_ble_eq_true rfl) ?_
  intro p e s m below meth c A X hP hD hS ls hl
  obtain ⟨hx, hb, hr, hml, hown, hts, hlk, hnm, hK, hN, hA⟩ := X
  have hown : s.vm.findClass "LoseLeagueModel" = some m.cls := hown
  have hl : lv_has ls 4 [(0, .ref (am 0)), (1, .int p1), (2, .int p2)] := hl
  unfold wpX7_weekOn at h
  refine lv_aload_n hx hb dX7_weekOn_0 rfl (lv_at hl 0 rfl) ?_
  refine lv_iload_n hx hb dX7_weekOn_1 rfl (lv_at hl 1 rfl) ?_
  have hrc := va_recv hK hP (ci := 7) (q0 := 0) rfl rfl
  refine zc_i (wc := [zM am f, zA (kk 1) (am 1) 252 st]) (wr := []) (w1 := (fun u : Unit => [zM am f, zA (kk 1) (am 1) 252 st])) (rest := []) [0, 1] [] rfl rfl (by decide) (by decide) (by decide) hA hP hD hS (fun hP hD => va_runV (As := [.int p1]) (rest := []) ⟨hx, hb, hml, hown, hts⟩ (metX7_placeOn l D kk am _ f st p1 _ h) (cwV 1 hts (lw_V q1089 q1091 qs42 q71 q1092) rfl rfl rfl pdX7_placeOn ⟨(Nat.le_of_ble_eq_true rfl), (Nat.le_of_ble_eq_true rfl)⟩) (zp_V hK hN hrc hP hD) rfl rfl hl.1 rfl (lv_room (Nat.le_of_ble_eq_true rfl)) dX7_weekOn_2 ⟨(Nat.le_of_ble_eq_true rfl), (Nat.le_of_ble_eq_true rfl)⟩) (fun r_1 u H locs h hP hD hS => ?_)
  try dsimp only at h
  have hP : va_P D vwCl [zM am f, zA (kk 1) (am 1) 252 st] H := hP
  have hD : va_D A [zM am f, zA (kk 1) (am 1) 252 st] := hD
  refine lv_istore_n (lv' := [(3, .int r_1), (0, .ref (am 0)), (1, .int p1), (2, .int p2)]) hx hb dX7_weekOn_5 rfl hl (by decide) rfl (fun ls hl => ?_)
  refine lv_aload_n hx hb dX7_weekOn_6 rfl (lv_at hl 1 rfl) ?_
  refine lv_bipush (v := (-4 : Int32)) hx hb dX7_weekOn_7 (by decide) ?_
  refine va_put (D := D) (ci := 7) (v := .int (-4 : Int32)) (C := RX7) (T := TX7) (N := 29) hx hb hts in_X7 tyX7 tyX7_ok nmX7 hown hK hP hD hS 0 rfl rfl 16 (Nat.le_of_ble_eq_true rfl) (hts _ q955) (fun _ h9 => h9) rfl (tyX7_ok 16 (Nat.le_of_ble_eq_true rfl)) rfl rfl (Nat.le_of_ble_eq_true rfl) dX7_weekOn_9 (fun H locs hP hD hS => ?_)
  have hP : va_P D vwCl [zM am (upd f 16 (-4 : Int32)), zA (kk 1) (am 1) 252 st] H := hP
  have hD : va_D A [zM am (upd f 16 (-4 : Int32)), zA (kk 1) (am 1) 252 st] := hD
  refine lv_iload_n hx hb dX7_weekOn_12 rfl (lv_at hl 0 rfl) ?_
  refine lv_bipush (v := (-4 : Int32)) hx hb dX7_weekOn_13 (by decide) ?_
  have cut_57 : ∀ (f : Nat → Int32) (st : Nat → Int32) (x3 : Int32), wpX7_weekOn_57 p1 p2 Q  f st x3 → ∀ (H : Heap) (locs : List Loc), va_P D vwCl [zM am f, zA (kk 1) (am 1) 252 st] H → va_D A [zM am f, zA (kk 1) (am 1) 252 st] → va_S A s.heap H locs → ∀ ls : Array Slot, lv_has ls 4 [(3, .int x3), (0, .ref (am 0)), (1, .int p1)] → W p l e { frames := 3, cells := 0, slots := 0, locals := 76 } s m ([.ref (am 0), .int p1, .int p2] : List Value).toArray below meth c H locs 0 0 (MQ below (va_Qv (fun (u : (Nat → Int32) × (Nat → Int32)) => Q u.1 u.2) (zB D A (fun u : (Nat → Int32) × (Nat → Int32) => [zM am u.1, zA (kk 1) (am 1) 252 u.2])) A) ([.ref (am 0), .int p1, .int p2] : List Value).toArray s 0 0 A) (F0 m 57 ls []) := by
    intro f st x3 h H locs hP hD hS ls hl
    unfold wpX7_weekOn_57 at h
    refine lv_iload_n hx hb dX7_weekOn_57 rfl (lv_at hl 0 rfl) ?_
    refine lv_bipush (v := (-4 : Int32)) hx hb dX7_weekOn_58 (by decide) ?_
    have cut_83 : ∀ (f : Nat → Int32) (st : Nat → Int32), wpX7_weekOn_83 p1 p2 Q  f st → ∀ (H : Heap) (locs : List Loc), va_P D vwCl [zM am f, zA (kk 1) (am 1) 252 st] H → va_D A [zM am f, zA (kk 1) (am 1) 252 st] → va_S A s.heap H locs → ∀ ls : Array Slot, lv_has ls 4 [(0, .ref (am 0)), (1, .int p1)] → W p l e { frames := 3, cells := 0, slots := 0, locals := 76 } s m ([.ref (am 0), .int p1, .int p2] : List Value).toArray below meth c H locs 0 0 (MQ below (va_Qv (fun (u : (Nat → Int32) × (Nat → Int32)) => Q u.1 u.2) (zB D A (fun u : (Nat → Int32) × (Nat → Int32) => [zM am u.1, zA (kk 1) (am 1) 252 u.2])) A) ([.ref (am 0), .int p1, .int p2] : List Value).toArray s 0 0 A) (F0 m 83 ls []) := by
      intro f st h H locs hP hD hS ls hl
      unfold wpX7_weekOn_83 at h
      refine lv_aload_n hx hb dX7_weekOn_83 rfl (lv_at hl 0 rfl) ?_
      refine va_get (D := D) (ci := 7) (v := .ref (am 1)) (C := RX7) (T := TX7) (N := 29) hx hb hts in_X7 hown hK hP 0 rfl rfl 0 (Nat.le_of_ble_eq_true rfl) (hts _ q939) (fun _ h9 => h9) rfl dX7_weekOn_84 ?_
      refine lv_iload_n hx hb dX7_weekOn_87 rfl (lv_at hl 1 rfl) ?_
      refine lv_bipush (v := (41 : Int32)) hx hb dX7_weekOn_88 (by decide) ?_
      refine lv_iadd hx hb dX7_weekOn_90 ?_
      refine lv_dup2_11 hx hb dX7_weekOn_91 rfl rfl ?_
      obtain ⟨hin, h⟩ := h
      refine va_iald hx hb hK hP 1 1 rfl rfl hin dX7_weekOn_92 ?_
      refine lv_iconst (v := (1 : Int32)) hx hb dX7_weekOn_93 (by decide) ?_
      refine lv_iadd hx hb dX7_weekOn_94 ?_
      refine lv_topi (fun v_2 ev_2 => ?_)
      have h := h v_2 ev_2
      obtain ⟨hin, h⟩ := h
      refine va_iast hx hb hK hP hD hS 1 1 rfl rfl hin dX7_weekOn_95 (fun H locs hP hD hS => ?_)
      have hP : va_P D vwCl [zM am f, zA (kk 1) (am 1) 252 (upd st (p1 + (41 : Int32)).toNatClampNeg v_2)] H := hP
      have hD : va_D A [zM am f, zA (kk 1) (am 1) 252 (upd st (p1 + (41 : Int32)).toNatClampNeg v_2)] := hD
      exact zr_v hx hb hr hlk hP hD hS (f, (upd st (p1 + (41 : Int32)).toNatClampNeg v_2)) [0, 1] rfl (by decide) dX7_weekOn_96 h
    refine lv_icmp_eq (tgt := 83) hx hb dX7_weekOn_60 (by decide) (fun c_3 => ?_) (fun c_3 => ?_)
    · have h := h.1 c_3
      exact cut_83 f st h _ _ hP hD hS _ (lv_sub hl [1, 2] rfl)
    · have h := h.2 c_3
      refine lv_iload_n hx hb dX7_weekOn_63 rfl (lv_at hl 0 rfl) ?_
      refine lv_aload_n hx hb dX7_weekOn_64 rfl (lv_at hl 1 rfl) ?_
      refine va_get (D := D) (ci := 7) (v := .ref (am 1)) (C := RX7) (T := TX7) (N := 29) hx hb hts in_X7 hown hK hP 0 rfl rfl 0 (Nat.le_of_ble_eq_true rfl) (hts _ q939) (fun _ h9 => h9) rfl dX7_weekOn_65 ?_
      refine lv_iload_n hx hb dX7_weekOn_68 rfl (lv_at hl 2 rfl) ?_
      refine lv_bipush (v := (40 : Int32)) hx hb dX7_weekOn_69 (by decide) ?_
      refine lv_iadd hx hb dX7_weekOn_71 ?_
      obtain ⟨hin, h⟩ := h
      refine va_iald hx hb hK hP 1 1 rfl rfl hin dX7_weekOn_72 ?_
      refine lv_iconst (v := (1 : Int32)) hx hb dX7_weekOn_73 (by decide) ?_
      refine lv_isub hx hb dX7_weekOn_74 ?_
      refine lv_icmp_ne (tgt := 83) hx hb dX7_weekOn_75 (by decide) (fun c_4 => ?_) (fun c_4 => ?_)
      · have h := h.2 c_4
        exact cut_83 f st h _ _ hP hD hS _ (lv_sub hl [1, 2] rfl)
      · have h := h.1 c_4
        refine lv_aload_n hx hb dX7_weekOn_78 rfl (lv_at hl 1 rfl) ?_
        refine lv_iload_n hx hb dX7_weekOn_79 rfl (lv_at hl 2 rfl) ?_
        have hrc := va_recv hK hP (ci := 7) (q0 := 0) rfl rfl
        refine zc_v (wc := [zM am f, zA (kk 1) (am 1) 252 st]) (wr := []) (w1 := (fun u : (Nat → Int32) => [zM am f, zA (kk 1) (am 1) 252 u])) (rest := []) [0, 1] [] rfl rfl (by decide) (by decide) (by decide) hA hP hD hS (fun hP hD => va_runV (As := [.int p1]) (rest := []) ⟨hx, hb, hml, hown, hts⟩ (metX7_yearsEnd l D kk am _ f st p1 _ h) (cwV 1 hts (lw_V q1176 q1178 qs55 q71 q1179) rfl rfl rfl pdX7_yearsEnd ⟨(Nat.le_of_ble_eq_true rfl), (Nat.le_of_ble_eq_true rfl)⟩) (zp_V hK hN hrc hP hD) rfl rfl hl.1 rfl (lv_room (Nat.le_of_ble_eq_true rfl)) dX7_weekOn_80 ⟨(Nat.le_of_ble_eq_true rfl), (Nat.le_of_ble_eq_true rfl)⟩) (fun u H locs h hP hD hS => ?_)
        obtain ⟨st_6, rfl⟩ : ∃ z, z = u := ⟨_, rfl⟩
        try dsimp only at h
        have hP : va_P D vwCl [zM am f, zA (kk 1) (am 1) 252 st_6] H := hP
        have hD : va_D A [zM am f, zA (kk 1) (am 1) 252 st_6] := hD
        exact cut_83 f st_6 h _ _ hP hD hS _ (lv_sub hl [1, 2] rfl)
  refine lv_icmp_eq (tgt := 57) hx hb dX7_weekOn_15 (by decide) (fun c_7 => ?_) (fun c_7 => ?_)
  · have h := h.1 c_7
    exact cut_57 (upd f 16 (-4 : Int32)) st r_1 h _ _ hP hD hS _ (lv_sub hl [0, 1, 2] rfl)
  · have h := h.2 c_7
    refine lv_iload_n hx hb dX7_weekOn_18 rfl (lv_at hl 0 rfl) ?_
    refine lv_aload_n hx hb dX7_weekOn_19 rfl (lv_at hl 1 rfl) ?_
    refine va_get (D := D) (ci := 7) (v := .int (f 19)) (C := RX7) (T := TX7) (N := 29) hx hb hts in_X7 hown hK hP 0 rfl rfl 19 (Nat.le_of_ble_eq_true rfl) (hts _ q958) (fun _ h9 => h9) rfl dX7_weekOn_20 ?_
    refine lv_icmp_eq (tgt := 57) hx hb dX7_weekOn_23 (by decide) (fun c_8 => ?_) (fun c_8 => ?_)
    · have h := h.1 c_8
      exact cut_57 (upd f 16 (-4 : Int32)) st r_1 h _ _ hP hD hS _ (lv_sub hl [0, 1, 2] rfl)
    · have h := h.2 c_8
      refine lv_iload_n hx hb dX7_weekOn_26 rfl (lv_at hl 3 rfl) ?_
      refine lv_if_ne (tgt := 57) hx hb dX7_weekOn_27 (by decide) (fun c_9 => ?_) (fun c_9 => ?_)
      · have h := h.2 c_9
        exact cut_57 (upd f 16 (-4 : Int32)) st r_1 h _ _ hP hD hS _ (lv_sub hl [0, 1, 2] rfl)
      · have h := h.1 c_9
        refine lv_aload_n hx hb dX7_weekOn_30 rfl (lv_at hl 1 rfl) ?_
        refine lv_iload_n hx hb dX7_weekOn_31 rfl (lv_at hl 2 rfl) ?_
        refine lv_aload_n hx hb dX7_weekOn_32 rfl (lv_at hl 1 rfl) ?_
        refine va_get (D := D) (ci := 7) (v := .ref (am 1)) (C := RX7) (T := TX7) (N := 29) hx hb hts in_X7 hown hK hP 0 rfl rfl 0 (Nat.le_of_ble_eq_true rfl) (hts _ q939) (fun _ h9 => h9) rfl dX7_weekOn_33 ?_
        refine lv_iload_n hx hb dX7_weekOn_36 rfl (lv_at hl 2 rfl) ?_
        refine lv_bipush (v := (20 : Int32)) hx hb dX7_weekOn_37 (by decide) ?_
        refine lv_iadd hx hb dX7_weekOn_39 ?_
        refine lv_iload_n hx hb dX7_weekOn_40 rfl (lv_at hl 0 rfl) ?_
        refine lv_iadd hx hb dX7_weekOn_41 ?_
        obtain ⟨hin, h⟩ := h
        refine va_iald hx hb hK hP 1 1 rfl rfl hin dX7_weekOn_42 ?_
        refine lv_aload_n hx hb dX7_weekOn_43 rfl (lv_at hl 1 rfl) ?_
        refine va_get (D := D) (ci := 7) (v := .ref (am 1)) (C := RX7) (T := TX7) (N := 29) hx hb hts in_X7 hown hK hP 0 rfl rfl 0 (Nat.le_of_ble_eq_true rfl) (hts _ q939) (fun _ h9 => h9) rfl dX7_weekOn_44 ?_
        refine lv_iload_n hx hb dX7_weekOn_47 rfl (lv_at hl 2 rfl) ?_
        refine lv_bipush (v := (30 : Int32)) hx hb dX7_weekOn_48 (by decide) ?_
        refine lv_iadd hx hb dX7_weekOn_50 ?_
        refine lv_iload_n hx hb dX7_weekOn_51 rfl (lv_at hl 0 rfl) ?_
        refine lv_iadd hx hb dX7_weekOn_52 ?_
        obtain ⟨hin, h⟩ := h
        refine va_iald hx hb hK hP 1 1 rfl rfl hin dX7_weekOn_53 ?_
        have hrc := va_recv hK hP (ci := 7) (q0 := 0) rfl rfl
        refine zc_v (wc := [zM am (upd f 16 (-4 : Int32)), zA (kk 1) (am 1) 252 st]) (wr := []) (w1 := (fun u : (Nat → Int32) × (Nat → Int32) => [zM am u.1, zA (kk 1) (am 1) 252 u.2])) (rest := []) [0, 1] [] rfl rfl (by decide) (by decide) (by decide) hA hP hD hS (fun hP hD => va_runV (As := [.int p1, .int (st ((p1 + (20 : Int32)) + r_1).toNatClampNeg), .int (st ((p1 + (30 : Int32)) + r_1).toNatClampNeg)]) (rest := []) ⟨hx, hb, hml, hown, hts⟩ (metX7_playedOn l D kk am _ (upd f 16 (-4 : Int32)) st p1 (st ((p1 + (20 : Int32)) + r_1).toNatClampNeg) (st ((p1 + (30 : Int32)) + r_1).toNatClampNeg) _ h) (cwV 3 hts (lw_V q1172 q1174 qs54 q71 q1175) rfl rfl rfl pdX7_playedOn ⟨(Nat.le_of_ble_eq_true rfl), (Nat.le_of_ble_eq_true rfl)⟩) (zp_V hK hN hrc hP hD) rfl rfl hl.1 rfl (lv_room (Nat.le_of_ble_eq_true rfl)) dX7_weekOn_54 ⟨(Nat.le_of_ble_eq_true rfl), (Nat.le_of_ble_eq_true rfl)⟩) (fun u H locs h hP hD hS => ?_)
        obtain ⟨f_11, st_12⟩ := u
        try dsimp only at h
        have hP : va_P D vwCl [zM am f_11, zA (kk 1) (am 1) 252 st_12] H := hP
        have hD : va_D A [zM am f_11, zA (kk 1) (am 1) 252 st_12] := hD
        exact cut_57 f_11 st_12 r_1 h _ _ hP hD hS _ (lv_sub hl [0, 1, 2] rfl)
def wbX7_owedOn_4 (f : Nat → Int32) (st : Nat → Int32) (p1 : Int32) (Q : Int32 → Prop) (k4 : Int32 → Int32 → Prop) (x2 : Int32) (x3 : Int32) : Prop :=
  (((f 1) ≤ x3 → Q x2) ∧ (¬ (f 1) ≤ x3 → (vp_in ((p1 + (15 : Int32)) + x3) 252 ∧ (∀ x2_2 : Int32, x2_2 = (x2 + (st ((p1 + (15 : Int32)) + x3).toNatClampNeg)) → k4 x2_2 (x3 + 1)))))
def wpX7_owedOn_4 (f : Nat → Int32) (st : Nat → Int32) (p1 : Int32) (Q : Int32 → Prop) (n : Nat) : Int32 → Int32 → Prop :=
  Nat.rec (motive := fun _ => Int32 → Int32 → Prop) (fun _ _ => False) (fun _ k => wbX7_owedOn_4 f st p1 Q  k) n
def wpX7_owedOn (f : Nat → Int32) (st : Nat → Int32) (p1 : Int32) (Q : Int32 → Prop) : Prop :=
  (∃ n : Nat, wpX7_owedOn_4 f st p1 Q  n (0 : Int32) (0 : Int32))
set_option maxHeartbeats 4000000 in
theorem metX7_owedOn (l : Launch) (D : va_G) (kk : Nat → ClassId) (am : Nat → Nat) (sz : Nat) (f : Nat → Int32) (st : Nat → Int32) (p1 : Int32) (Q : Int32 → Prop) (h : wpX7_owedOn f st p1 Q) : Met l yX7_owedOn (ws_ yX7_owedOn cX7_owedOn 4 (some .int)) { frames := 0, cells := 0, slots := 0, locals := 0 } (va_Pc ([.ref (am 0), .int p1] : List Value) (zPc D kk [zM am f, zA (kk 1) (am 1) 252 st] sz)) (va_Qi (fun (r : Int32) (u : Unit) => Q r ) (zB D (va_A [zM am f, zA (kk 1) (am 1) 252 st] sz) (fun u : Unit => [zM am f, zA (kk 1) (am 1) 252 st])) (va_A [zM am f, zA (kk 1) (am 1) 252 st] sz)) 0 0 (va_A [zM am f, zA (kk 1) (am 1) 252 st] sz) := by
  refine zMet (Qc := fun A => va_Qi (fun (r : Int32) (u : Unit) => Q r ) (zB D A (fun u : Unit => [zM am f, zA (kk 1) (am 1) 252 st])) A) (by decide) (Nat.le_of_ble_eq_true rfl) ?_
  intro p e s m below meth c A X hP hD hS ls hl
  obtain ⟨hx, hb, hr, hml, hown, hts, hlk, hnm, hK, hN, hA⟩ := X
  have hown : s.vm.findClass "LoseLeagueModel" = some m.cls := hown
  have hl : lv_has ls 4 [(0, .ref (am 0)), (1, .int p1)] := hl
  unfold wpX7_owedOn at h
  refine lv_iconst (v := (0 : Int32)) hx hb dX7_owedOn_0 (by decide) ?_
  refine lv_istore_n (lv' := [(2, .int (0 : Int32)), (0, .ref (am 0)), (1, .int p1)]) hx hb dX7_owedOn_1 rfl hl (by decide) rfl (fun ls hl => ?_)
  refine lv_iconst (v := (0 : Int32)) hx hb dX7_owedOn_2 (by decide) ?_
  have cut_4 : ∀ (nl4 : Nat) (x2 : Int32) (x3 : Int32), wpX7_owedOn_4 f st p1 Q  nl4 x2 x3 → ∀ (H : Heap) (locs : List Loc), va_P D vwCl [zM am f, zA (kk 1) (am 1) 252 st] H → va_D A [zM am f, zA (kk 1) (am 1) 252 st] → va_S A s.heap H locs → ∀ ls : Array Slot, lv_has ls 4 [(2, .int x2), (3, .int x3), (0, .ref (am 0)), (1, .int p1)] → W p l e { frames := 0, cells := 0, slots := 0, locals := 0 } s m ([.ref (am 0), .int p1] : List Value).toArray below meth c H locs 0 0 (MQ below (va_Qi (fun (r : Int32) (u : Unit) => Q r ) (zB D A (fun u : Unit => [zM am f, zA (kk 1) (am 1) 252 st])) A) ([.ref (am 0), .int p1] : List Value).toArray s 0 0 A) (F0 m 4 ls []) := by
    intro nl4
    induction nl4 with
    | zero => intro x2 x3 h; exact absurd h id
    | succ nl4 ih_4 =>
      intro x2 x3 h H locs hP hD hS ls hl
      have h : wbX7_owedOn_4 f st p1 Q  (wpX7_owedOn_4 f st p1 Q  nl4) x2 x3 := h
      unfold wbX7_owedOn_4 at h
      refine lv_iload_n hx hb dX7_owedOn_4 rfl (lv_at hl 1 rfl) ?_
      refine lv_aload_n hx hb dX7_owedOn_5 rfl (lv_at hl 2 rfl) ?_
      refine va_get (D := D) (ci := 7) (v := .int (f 1)) (C := RX7) (T := TX7) (N := 29) hx hb hts in_X7 hown hK hP 0 rfl rfl 1 (Nat.le_of_ble_eq_true rfl) (hts _ q940) (fun _ h9 => h9) rfl dX7_owedOn_6 ?_
      refine lv_icmp_ge (tgt := 32) hx hb dX7_owedOn_9 (by decide) (fun c_1 => ?_) (fun c_1 => ?_)
      · have h := h.1 c_1
        refine lv_iload_n hx hb dX7_owedOn_32 rfl (lv_at hl 0 rfl) ?_
        exact zr_i hx hb hr hlk rfl hP hD hS () [0, 1] rfl (by decide) dX7_owedOn_33 h
      · have h := h.2 c_1
        refine lv_iload_n hx hb dX7_owedOn_12 rfl (lv_at hl 0 rfl) ?_
        refine lv_aload_n hx hb dX7_owedOn_13 rfl (lv_at hl 2 rfl) ?_
        refine va_get (D := D) (ci := 7) (v := .ref (am 1)) (C := RX7) (T := TX7) (N := 29) hx hb hts in_X7 hown hK hP 0 rfl rfl 0 (Nat.le_of_ble_eq_true rfl) (hts _ q939) (fun _ h9 => h9) rfl dX7_owedOn_14 ?_
        refine lv_iload_n hx hb dX7_owedOn_17 rfl (lv_at hl 3 rfl) ?_
        refine lv_bipush (v := (15 : Int32)) hx hb dX7_owedOn_18 (by decide) ?_
        refine lv_iadd hx hb dX7_owedOn_20 ?_
        refine lv_iload_n hx hb dX7_owedOn_21 rfl (lv_at hl 1 rfl) ?_
        refine lv_iadd hx hb dX7_owedOn_22 ?_
        obtain ⟨hin, h⟩ := h
        refine va_iald hx hb hK hP 1 1 rfl rfl hin dX7_owedOn_23 ?_
        refine lv_iadd hx hb dX7_owedOn_24 ?_
        refine lv_topi (fun x2_2 ex2_2 => ?_)
        have h := h x2_2 ex2_2
        refine lv_istore_n (lv' := [(2, .int x2_2), (3, .int x3), (0, .ref (am 0)), (1, .int p1)]) hx hb dX7_owedOn_25 rfl hl (by decide) rfl (fun ls hl => ?_)
        refine lv_iinc (v := (x3 + 1)) (lv' := [(3, .int (x3 + 1)), (2, .int x2_2), (0, .ref (am 0)), (1, .int p1)]) hx hb dX7_owedOn_26 hl (k := 1) rfl rfl (by decide) rfl (fun ls hl => ?_)
        refine lv_goto (tgt := 4) hx hb dX7_owedOn_29 (by decide) ?_
        exact ih_4 x2_2 (x3 + 1) h _ _ hP hD hS _ (lv_sub hl [1, 0, 2, 3] rfl)
  refine lv_istore_n (lv' := [(3, .int (0 : Int32)), (2, .int (0 : Int32)), (0, .ref (am 0)), (1, .int p1)]) hx hb dX7_owedOn_3 rfl hl (by decide) rfl (fun ls hl => ?_)
  obtain ⟨n_4, h⟩ := h
  exact cut_4 n_4 (0 : Int32) (0 : Int32) h _ _ hP hD hS _ (lv_sub hl [1, 0, 2, 3] rfl)
def wpX7_losersOn_34 (f : Nat → Int32) (st : Nat → Int32) (p1 : Int32) (Q : Int32 → Prop) (k4 : Int32 → Int32 → Prop) (x3 : Int32) (s1 : Int32) (s0 : Int32) : Prop :=
  k4 (s0 ||| s1) (x3 + 1)
def wbX7_losersOn_4 (f : Nat → Int32) (st : Nat → Int32) (p1 : Int32) (Q : Int32 → Prop) (k4 : Int32 → Int32 → Prop) (x2 : Int32) (x3 : Int32) : Prop :=
  (((f 1) ≤ x3 → Q x2) ∧ (¬ (f 1) ≤ x3 → (vp_in ((p1 + (10 : Int32)) + x3) 252 ∧ (((st ((p1 + (10 : Int32)) + x3).toNatClampNeg) ≤ 0 → wpX7_losersOn_34 f st p1 Q k4 x3 (0 : Int32) x2) ∧ (¬ (st ((p1 + (10 : Int32)) + x3).toNatClampNeg) ≤ 0 → wpX7_losersOn_34 f st p1 Q k4 x3 ((1 : Int32) <<< (x3 &&& 31)) x2)))))
def wpX7_losersOn_4 (f : Nat → Int32) (st : Nat → Int32) (p1 : Int32) (Q : Int32 → Prop) (n : Nat) : Int32 → Int32 → Prop :=
  Nat.rec (motive := fun _ => Int32 → Int32 → Prop) (fun _ _ => False) (fun _ k => wbX7_losersOn_4 f st p1 Q  k) n
def wpX7_losersOn (f : Nat → Int32) (st : Nat → Int32) (p1 : Int32) (Q : Int32 → Prop) : Prop :=
  (∃ n : Nat, wpX7_losersOn_4 f st p1 Q  n (0 : Int32) (0 : Int32))
set_option maxHeartbeats 4000000 in
theorem metX7_losersOn (l : Launch) (D : va_G) (kk : Nat → ClassId) (am : Nat → Nat) (sz : Nat) (f : Nat → Int32) (st : Nat → Int32) (p1 : Int32) (Q : Int32 → Prop) (h : wpX7_losersOn f st p1 Q) : Met l yX7_losersOn (ws_ yX7_losersOn cX7_losersOn 4 (some .int)) { frames := 0, cells := 0, slots := 0, locals := 0 } (va_Pc ([.ref (am 0), .int p1] : List Value) (zPc D kk [zM am f, zA (kk 1) (am 1) 252 st] sz)) (va_Qi (fun (r : Int32) (u : Unit) => Q r ) (zB D (va_A [zM am f, zA (kk 1) (am 1) 252 st] sz) (fun u : Unit => [zM am f, zA (kk 1) (am 1) 252 st])) (va_A [zM am f, zA (kk 1) (am 1) 252 st] sz)) 0 0 (va_A [zM am f, zA (kk 1) (am 1) 252 st] sz) := by
  refine zMet (Qc := fun A => va_Qi (fun (r : Int32) (u : Unit) => Q r ) (zB D A (fun u : Unit => [zM am f, zA (kk 1) (am 1) 252 st])) A) (by decide) (Nat.le_of_ble_eq_true rfl) ?_
  intro p e s m below meth c A X hP hD hS ls hl
  obtain ⟨hx, hb, hr, hml, hown, hts, hlk, hnm, hK, hN, hA⟩ := X
  have hown : s.vm.findClass "LoseLeagueModel" = some m.cls := hown
  have hl : lv_has ls 4 [(0, .ref (am 0)), (1, .int p1)] := hl
  unfold wpX7_losersOn at h
  refine lv_iconst (v := (0 : Int32)) hx hb dX7_losersOn_0 (by decide) ?_
  refine lv_istore_n (lv' := [(2, .int (0 : Int32)), (0, .ref (am 0)), (1, .int p1)]) hx hb dX7_losersOn_1 rfl hl (by decide) rfl (fun ls hl => ?_)
  refine lv_iconst (v := (0 : Int32)) hx hb dX7_losersOn_2 (by decide) ?_
  have cut_4 : ∀ (nl4 : Nat) (x2 : Int32) (x3 : Int32), wpX7_losersOn_4 f st p1 Q  nl4 x2 x3 → ∀ (H : Heap) (locs : List Loc), va_P D vwCl [zM am f, zA (kk 1) (am 1) 252 st] H → va_D A [zM am f, zA (kk 1) (am 1) 252 st] → va_S A s.heap H locs → ∀ ls : Array Slot, lv_has ls 4 [(2, .int x2), (3, .int x3), (0, .ref (am 0)), (1, .int p1)] → W p l e { frames := 0, cells := 0, slots := 0, locals := 0 } s m ([.ref (am 0), .int p1] : List Value).toArray below meth c H locs 0 0 (MQ below (va_Qi (fun (r : Int32) (u : Unit) => Q r ) (zB D A (fun u : Unit => [zM am f, zA (kk 1) (am 1) 252 st])) A) ([.ref (am 0), .int p1] : List Value).toArray s 0 0 A) (F0 m 4 ls []) := by
    intro nl4
    induction nl4 with
    | zero => intro x2 x3 h; exact absurd h id
    | succ nl4 ih_4 =>
      intro x2 x3 h H locs hP hD hS ls hl
      have h : wbX7_losersOn_4 f st p1 Q  (wpX7_losersOn_4 f st p1 Q  nl4) x2 x3 := h
      unfold wbX7_losersOn_4 at h
      refine lv_iload_n hx hb dX7_losersOn_4 rfl (lv_at hl 1 rfl) ?_
      refine lv_aload_n hx hb dX7_losersOn_5 rfl (lv_at hl 2 rfl) ?_
      refine va_get (D := D) (ci := 7) (v := .int (f 1)) (C := RX7) (T := TX7) (N := 29) hx hb hts in_X7 hown hK hP 0 rfl rfl 1 (Nat.le_of_ble_eq_true rfl) (hts _ q940) (fun _ h9 => h9) rfl dX7_losersOn_6 ?_
      refine lv_icmp_ge (tgt := 42) hx hb dX7_losersOn_9 (by decide) (fun c_1 => ?_) (fun c_1 => ?_)
      · have h := h.1 c_1
        refine lv_iload_n hx hb dX7_losersOn_42 rfl (lv_at hl 0 rfl) ?_
        exact zr_i hx hb hr hlk rfl hP hD hS () [0, 1] rfl (by decide) dX7_losersOn_43 h
      · have h := h.2 c_1
        refine lv_iload_n hx hb dX7_losersOn_12 rfl (lv_at hl 0 rfl) ?_
        refine lv_aload_n hx hb dX7_losersOn_13 rfl (lv_at hl 2 rfl) ?_
        refine va_get (D := D) (ci := 7) (v := .ref (am 1)) (C := RX7) (T := TX7) (N := 29) hx hb hts in_X7 hown hK hP 0 rfl rfl 0 (Nat.le_of_ble_eq_true rfl) (hts _ q939) (fun _ h9 => h9) rfl dX7_losersOn_14 ?_
        refine lv_iload_n hx hb dX7_losersOn_17 rfl (lv_at hl 3 rfl) ?_
        refine lv_bipush (v := (10 : Int32)) hx hb dX7_losersOn_18 (by decide) ?_
        refine lv_iadd hx hb dX7_losersOn_20 ?_
        refine lv_iload_n hx hb dX7_losersOn_21 rfl (lv_at hl 1 rfl) ?_
        refine lv_iadd hx hb dX7_losersOn_22 ?_
        obtain ⟨hin, h⟩ := h
        refine va_iald hx hb hK hP 1 1 rfl rfl hin dX7_losersOn_23 ?_
        have cut_34 : ∀ (x3 : Int32) (s1 : Int32) (s0 : Int32), wpX7_losersOn_34 f st p1 Q (wpX7_losersOn_4 f st p1 Q  nl4) x3 s1 s0 → ∀ (H : Heap) (locs : List Loc), va_P D vwCl [zM am f, zA (kk 1) (am 1) 252 st] H → va_D A [zM am f, zA (kk 1) (am 1) 252 st] → va_S A s.heap H locs → ∀ ls : Array Slot, lv_has ls 4 [(3, .int x3), (0, .ref (am 0)), (1, .int p1)] → W p l e { frames := 0, cells := 0, slots := 0, locals := 0 } s m ([.ref (am 0), .int p1] : List Value).toArray below meth c H locs 0 0 (MQ below (va_Qi (fun (r : Int32) (u : Unit) => Q r ) (zB D A (fun u : Unit => [zM am f, zA (kk 1) (am 1) 252 st])) A) ([.ref (am 0), .int p1] : List Value).toArray s 0 0 A) (F0 m 34 ls [.int s1, .int s0]) := by
          intro x3 s1 s0 h H locs hP hD hS ls hl
          unfold wpX7_losersOn_34 at h
          refine lv_ior hx hb dX7_losersOn_34 ?_
          refine lv_istore_n (lv' := [(2, .int (s0 ||| s1)), (3, .int x3), (0, .ref (am 0)), (1, .int p1)]) hx hb dX7_losersOn_35 rfl hl (by decide) rfl (fun ls hl => ?_)
          refine lv_iinc (v := (x3 + 1)) (lv' := [(3, .int (x3 + 1)), (2, .int (s0 ||| s1)), (0, .ref (am 0)), (1, .int p1)]) hx hb dX7_losersOn_36 hl (k := 1) rfl rfl (by decide) rfl (fun ls hl => ?_)
          refine lv_goto (tgt := 4) hx hb dX7_losersOn_39 (by decide) ?_
          exact ih_4 (s0 ||| s1) (x3 + 1) h _ _ hP hD hS _ (lv_sub hl [1, 0, 2, 3] rfl)
        refine lv_if_le (tgt := 33) hx hb dX7_losersOn_24 (by decide) (fun c_2 => ?_) (fun c_2 => ?_)
        · have h := h.1 c_2
          refine lv_iconst (v := (0 : Int32)) hx hb dX7_losersOn_33 (by decide) ?_
          exact cut_34 x3 (0 : Int32) x2 h _ _ hP hD hS _ (lv_sub hl [1, 2, 3] rfl)
        · have h := h.2 c_2
          refine lv_iconst (v := (1 : Int32)) hx hb dX7_losersOn_27 (by decide) ?_
          refine lv_iload_n hx hb dX7_losersOn_28 rfl (lv_at hl 1 rfl) ?_
          refine lv_ishl hx hb dX7_losersOn_29 ?_
          refine lv_goto (tgt := 34) hx hb dX7_losersOn_30 (by decide) ?_
          exact cut_34 x3 ((1 : Int32) <<< (x3 &&& 31)) x2 h _ _ hP hD hS _ (lv_sub hl [1, 2, 3] rfl)
  refine lv_istore_n (lv' := [(3, .int (0 : Int32)), (2, .int (0 : Int32)), (0, .ref (am 0)), (1, .int p1)]) hx hb dX7_losersOn_3 rfl hl (by decide) rfl (fun ls hl => ?_)
  obtain ⟨n_4, h⟩ := h
  exact cut_4 n_4 (0 : Int32) (0 : Int32) h _ _ hP hD hS _ (lv_sub hl [1, 0, 2, 3] rfl)
def wpX7_rule (f : Nat → Int32) (st : Nat → Int32) (p1 : Int32) (Q : Int32 → Prop) : Prop :=
  ((p1 = 0 → Q (f 1)) ∧ (¬ p1 = 0 → ((p1 = 1 → Q (st (40 : Int32).toNatClampNeg)) ∧ (¬ p1 = 1 → ((p1 = 2 → Q (st (41 : Int32).toNatClampNeg)) ∧ (¬ p1 = 2 → ((p1 = 3 → (wpX7_placeOn st (0 : Int32) (fun r_2 => Q r_2))) ∧ (¬ p1 = 3 → ((p1 = 4 → (wpX7_losersOn f st (0 : Int32) (fun r_3 => Q r_3))) ∧ (¬ p1 = 4 → ((p1 = 5 → (wpX7_owedOn f st (0 : Int32) (fun r_4 => Q r_4))) ∧ (¬ p1 = 5 → Q (-1 : Int32)))))))))))))
set_option maxHeartbeats 4000000 in
theorem metX7_rule (l : Launch) (D : va_G) (kk : Nat → ClassId) (am : Nat → Nat) (sz : Nat) (f : Nat → Int32) (st : Nat → Int32) (p1 : Int32) (Q : Int32 → Prop) (h : wpX7_rule f st p1 Q) : Met l yX7_rule (ws_ yX7_rule cX7_rule 2 (some .int)) { frames := 1, cells := 0, slots := 0, locals := 23 } (va_Pc ([.ref (am 0), .int p1] : List Value) (zPc D kk [zM am f, zA (kk 1) (am 1) 252 st] sz)) (va_Qi (fun (r : Int32) (u : Unit) => Q r ) (zB D (va_A [zM am f, zA (kk 1) (am 1) 252 st] sz) (fun u : Unit => [zM am f, zA (kk 1) (am 1) 252 st])) (va_A [zM am f, zA (kk 1) (am 1) 252 st] sz)) 0 0 (va_A [zM am f, zA (kk 1) (am 1) 252 st] sz) := by
  refine zMet (Qc := fun A => va_Qi (fun (r : Int32) (u : Unit) => Q r ) (zB D A (fun u : Unit => [zM am f, zA (kk 1) (am 1) 252 st])) A) (by decide) (Nat.le_of_ble_eq_true rfl) ?_
  intro p e s m below meth c A X hP hD hS ls hl
  obtain ⟨hx, hb, hr, hml, hown, hts, hlk, hnm, hK, hN, hA⟩ := X
  have hown : s.vm.findClass "LoseLeagueModel" = some m.cls := hown
  have hl : lv_has ls 2 [(0, .ref (am 0)), (1, .int p1)] := hl
  unfold wpX7_rule at h
  refine lv_iload_n hx hb dX7_rule_0 rfl (lv_at hl 1 rfl) ?_
  by_cases c_1_0 : p1 = 0
  · have h := h.1 c_1_0
    refine lv_tableIn (tgt := 40) hx hb dX7_rule_1 (by rw [c_1_0]; decide) (by rw [c_1_0]; decide) (by rw [c_1_0]; rfl) (by decide) ?_
    refine lv_aload_n hx hb dX7_rule_40 rfl (lv_at hl 0 rfl) ?_
    refine va_get (D := D) (ci := 7) (v := .int (f 1)) (C := RX7) (T := TX7) (N := 29) hx hb hts in_X7 hown hK hP 0 rfl rfl 1 (Nat.le_of_ble_eq_true rfl) (hts _ q940) (fun _ h9 => h9) rfl dX7_rule_41 ?_
    exact zr_i hx hb hr hlk rfl hP hD hS () [0, 1] rfl (by decide) dX7_rule_44 h
  have h := h.2 c_1_0
  have nc_1_0 : ¬ p1.toInt = 0 := lv_neT c_1_0 rfl
  by_cases c_1_1 : p1 = 1
  · have h := h.1 c_1_1
    refine lv_tableIn (tgt := 45) hx hb dX7_rule_1 (by rw [c_1_1]; decide) (by rw [c_1_1]; decide) (by rw [c_1_1]; rfl) (by decide) ?_
    refine lv_aload_n hx hb dX7_rule_45 rfl (lv_at hl 0 rfl) ?_
    refine va_get (D := D) (ci := 7) (v := .ref (am 1)) (C := RX7) (T := TX7) (N := 29) hx hb hts in_X7 hown hK hP 0 rfl rfl 0 (Nat.le_of_ble_eq_true rfl) (hts _ q939) (fun _ h9 => h9) rfl dX7_rule_46 ?_
    refine lv_bipush (v := (40 : Int32)) hx hb dX7_rule_49 (by decide) ?_
    refine va_iald hx hb hK hP 1 1 rfl rfl (by unfold vp_in; decide) dX7_rule_51 ?_
    exact zr_i hx hb hr hlk rfl hP hD hS () [0, 1] rfl (by decide) dX7_rule_52 h
  have h := h.2 c_1_1
  have nc_1_1 : ¬ p1.toInt = 1 := lv_neT c_1_1 rfl
  by_cases c_1_2 : p1 = 2
  · have h := h.1 c_1_2
    refine lv_tableIn (tgt := 53) hx hb dX7_rule_1 (by rw [c_1_2]; decide) (by rw [c_1_2]; decide) (by rw [c_1_2]; rfl) (by decide) ?_
    refine lv_aload_n hx hb dX7_rule_53 rfl (lv_at hl 0 rfl) ?_
    refine va_get (D := D) (ci := 7) (v := .ref (am 1)) (C := RX7) (T := TX7) (N := 29) hx hb hts in_X7 hown hK hP 0 rfl rfl 0 (Nat.le_of_ble_eq_true rfl) (hts _ q939) (fun _ h9 => h9) rfl dX7_rule_54 ?_
    refine lv_bipush (v := (41 : Int32)) hx hb dX7_rule_57 (by decide) ?_
    refine va_iald hx hb hK hP 1 1 rfl rfl (by unfold vp_in; decide) dX7_rule_59 ?_
    exact zr_i hx hb hr hlk rfl hP hD hS () [0, 1] rfl (by decide) dX7_rule_60 h
  have h := h.2 c_1_2
  have nc_1_2 : ¬ p1.toInt = 2 := lv_neT c_1_2 rfl
  by_cases c_1_3 : p1 = 3
  · have h := h.1 c_1_3
    refine lv_tableIn (tgt := 61) hx hb dX7_rule_1 (by rw [c_1_3]; decide) (by rw [c_1_3]; decide) (by rw [c_1_3]; rfl) (by decide) ?_
    refine lv_aload_n hx hb dX7_rule_61 rfl (lv_at hl 0 rfl) ?_
    refine lv_iconst (v := (0 : Int32)) hx hb dX7_rule_62 (by decide) ?_
    have hrc := va_recv hK hP (ci := 7) (q0 := 0) rfl rfl
    refine zc_i (wc := [zM am f, zA (kk 1) (am 1) 252 st]) (wr := []) (w1 := (fun u : Unit => [zM am f, zA (kk 1) (am 1) 252 st])) (rest := []) [0, 1] [] rfl rfl (by decide) (by decide) (by decide) hA hP hD hS (fun hP hD => va_runV (As := [.int (0 : Int32)]) (rest := []) ⟨hx, hb, hml, hown, hts⟩ (metX7_placeOn l D kk am _ f st (0 : Int32) _ h) (cwV 1 hts (lw_V q1089 q1091 qs42 q71 q1092) rfl rfl rfl pdX7_placeOn ⟨(Nat.le_of_ble_eq_true rfl), (Nat.le_of_ble_eq_true rfl)⟩) (zp_V hK hN hrc hP hD) rfl rfl hl.1 rfl (lv_room (Nat.le_of_ble_eq_true rfl)) dX7_rule_63 ⟨(Nat.le_of_ble_eq_true rfl), (Nat.le_of_ble_eq_true rfl)⟩) (fun r_2 u H locs h hP hD hS => ?_)
    try dsimp only at h
    have hP : va_P D vwCl [zM am f, zA (kk 1) (am 1) 252 st] H := hP
    have hD : va_D A [zM am f, zA (kk 1) (am 1) 252 st] := hD
    exact zr_i hx hb hr hlk rfl hP hD hS () [0, 1] rfl (by decide) dX7_rule_66 h
  have h := h.2 c_1_3
  have nc_1_3 : ¬ p1.toInt = 3 := lv_neT c_1_3 rfl
  by_cases c_1_4 : p1 = 4
  · have h := h.1 c_1_4
    refine lv_tableIn (tgt := 67) hx hb dX7_rule_1 (by rw [c_1_4]; decide) (by rw [c_1_4]; decide) (by rw [c_1_4]; rfl) (by decide) ?_
    refine lv_aload_n hx hb dX7_rule_67 rfl (lv_at hl 0 rfl) ?_
    refine lv_iconst (v := (0 : Int32)) hx hb dX7_rule_68 (by decide) ?_
    have hrc := va_recv hK hP (ci := 7) (q0 := 0) rfl rfl
    refine zc_i (wc := [zM am f, zA (kk 1) (am 1) 252 st]) (wr := []) (w1 := (fun u : Unit => [zM am f, zA (kk 1) (am 1) 252 st])) (rest := []) [0, 1] [] rfl rfl (by decide) (by decide) (by decide) hA hP hD hS (fun hP hD => va_runV (As := [.int (0 : Int32)]) (rest := []) ⟨hx, hb, hml, hown, hts⟩ (metX7_losersOn l D kk am _ f st (0 : Int32) _ h) (cwV 1 hts (lw_V q1093 q1095 qs43 q71 q1096) rfl rfl rfl pdX7_losersOn ⟨(Nat.le_of_ble_eq_true rfl), (Nat.le_of_ble_eq_true rfl)⟩) (zp_V hK hN hrc hP hD) rfl rfl hl.1 rfl (lv_room (Nat.le_of_ble_eq_true rfl)) dX7_rule_69 ⟨(Nat.le_of_ble_eq_true rfl), (Nat.le_of_ble_eq_true rfl)⟩) (fun r_3 u H locs h hP hD hS => ?_)
    try dsimp only at h
    have hP : va_P D vwCl [zM am f, zA (kk 1) (am 1) 252 st] H := hP
    have hD : va_D A [zM am f, zA (kk 1) (am 1) 252 st] := hD
    exact zr_i hx hb hr hlk rfl hP hD hS () [0, 1] rfl (by decide) dX7_rule_72 h
  have h := h.2 c_1_4
  have nc_1_4 : ¬ p1.toInt = 4 := lv_neT c_1_4 rfl
  by_cases c_1_5 : p1 = 5
  · have h := h.1 c_1_5
    refine lv_tableIn (tgt := 73) hx hb dX7_rule_1 (by rw [c_1_5]; decide) (by rw [c_1_5]; decide) (by rw [c_1_5]; rfl) (by decide) ?_
    refine lv_aload_n hx hb dX7_rule_73 rfl (lv_at hl 0 rfl) ?_
    refine lv_iconst (v := (0 : Int32)) hx hb dX7_rule_74 (by decide) ?_
    have hrc := va_recv hK hP (ci := 7) (q0 := 0) rfl rfl
    refine zc_i (wc := [zM am f, zA (kk 1) (am 1) 252 st]) (wr := []) (w1 := (fun u : Unit => [zM am f, zA (kk 1) (am 1) 252 st])) (rest := []) [0, 1] [] rfl rfl (by decide) (by decide) (by decide) hA hP hD hS (fun hP hD => va_runV (As := [.int (0 : Int32)]) (rest := []) ⟨hx, hb, hml, hown, hts⟩ (metX7_owedOn l D kk am _ f st (0 : Int32) _ h) (cwV 1 hts (lw_V q1097 q1099 qs44 q71 q1100) rfl rfl rfl pdX7_owedOn ⟨(Nat.le_of_ble_eq_true rfl), (Nat.le_of_ble_eq_true rfl)⟩) (zp_V hK hN hrc hP hD) rfl rfl hl.1 rfl (lv_room (Nat.le_of_ble_eq_true rfl)) dX7_rule_75 ⟨(Nat.le_of_ble_eq_true rfl), (Nat.le_of_ble_eq_true rfl)⟩) (fun r_4 u H locs h hP hD hS => ?_)
    try dsimp only at h
    have hP : va_P D vwCl [zM am f, zA (kk 1) (am 1) 252 st] H := hP
    have hD : va_D A [zM am f, zA (kk 1) (am 1) 252 st] := hD
    exact zr_i hx hb hr hlk rfl hP hD hS () [0, 1] rfl (by decide) dX7_rule_78 h
  have h := h.2 c_1_5
  have nc_1_5 : ¬ p1.toInt = 5 := lv_neT c_1_5 rfl
  refine lv_tableOut (tgt := 79) hx hb dX7_rule_1 (by omega) (by decide) ?_
  refine lv_iconst (v := (-1 : Int32)) hx hb dX7_rule_79 (by decide) ?_
  exact zr_i hx hb hr hlk rfl hP hD hS () [0, 1] rfl (by decide) dX7_rule_80 h
def wpX7_town (f : Nat → Int32) (st : Nat → Int32) (p1 : Int32) (p2 : Int32) (Q : Int32 → Prop) : Prop :=
  (wpX7_isTown f p1 (fun r_1 => ((r_1 = 0 → Q (-1 : Int32)) ∧ (¬ r_1 = 0 → (wpX7_in (p2.toInt64) (0 : Int64) (4 : Int64) (fun r_3 => ((r_3 = 0 → Q (-1 : Int32)) ∧ (¬ r_3 = 0 → (((4 : Int32) ≤ p2 → (wpX7_playsOn st (0 : Int32) p1 (fun r_6 => Q r_6))) ∧ (¬ (4 : Int32) ≤ p2 → (vp_in (((5 : Int32) * p2) + p1) 252 ∧ Q (st (((5 : Int32) * p2) + p1).toNatClampNeg))))))))))))
set_option maxHeartbeats 4000000 in
theorem metX7_town (l : Launch) (D : va_G) (kk : Nat → ClassId) (am : Nat → Nat) (sz : Nat) (f : Nat → Int32) (st : Nat → Int32) (p1 : Int32) (p2 : Int32) (Q : Int32 → Prop) (h : wpX7_town f st p1 p2 Q) : Met l yX7_town (ws_ yX7_town cX7_town 3 (some .int)) { frames := 2, cells := 0, slots := 0, locals := 46 } (va_Pc ([.ref (am 0), .int p1, .int p2] : List Value) (zPc D kk [zM am f, zA (kk 1) (am 1) 252 st] sz)) (va_Qi (fun (r : Int32) (u : Unit) => Q r ) (zB D (va_A [zM am f, zA (kk 1) (am 1) 252 st] sz) (fun u : Unit => [zM am f, zA (kk 1) (am 1) 252 st])) (va_A [zM am f, zA (kk 1) (am 1) 252 st] sz)) 0 0 (va_A [zM am f, zA (kk 1) (am 1) 252 st] sz) := by
  refine zMet (Qc := fun A => va_Qi (fun (r : Int32) (u : Unit) => Q r ) (zB D A (fun u : Unit => [zM am f, zA (kk 1) (am 1) 252 st])) A) (by decide) (Nat.le_of_ble_eq_true rfl) ?_
  intro p e s m below meth c A X hP hD hS ls hl
  obtain ⟨hx, hb, hr, hml, hown, hts, hlk, hnm, hK, hN, hA⟩ := X
  have hown : s.vm.findClass "LoseLeagueModel" = some m.cls := hown
  have hl : lv_has ls 3 [(0, .ref (am 0)), (1, .int p1), (2, .int p2)] := hl
  unfold wpX7_town at h
  refine lv_aload_n hx hb dX7_town_0 rfl (lv_at hl 0 rfl) ?_
  refine lv_iload_n hx hb dX7_town_1 rfl (lv_at hl 1 rfl) ?_
  have hrc := va_recv hK hP (ci := 7) (q0 := 0) rfl rfl
  refine zc_i (wc := [zM am f]) (wr := [zA (kk 1) (am 1) 252 st]) (w1 := (fun u : Unit => [zM am f])) (rest := []) [0] [1] rfl rfl (by decide) (by decide) (by decide) hA hP hD hS (fun hP hD => va_runV (As := [.int p1]) (rest := []) ⟨hx, hb, hml, hown, hts⟩ (metX7_isTown l D kk am _ f p1 _ h) (cwV 1 hts (lw_V q1105 q1107 qs45 q71 q1108) rfl rfl rfl pdX7_isTown ⟨(Nat.le_of_ble_eq_true rfl), (Nat.le_of_ble_eq_true rfl)⟩) (zp_V hK hN hrc hP hD) rfl rfl hl.1 rfl (lv_room (Nat.le_of_ble_eq_true rfl)) dX7_town_2 ⟨(Nat.le_of_ble_eq_true rfl), (Nat.le_of_ble_eq_true rfl)⟩) (fun r_1 u H locs h hP hD hS => ?_)
  try dsimp only at h
  have hP : va_P D vwCl [zA (kk 1) (am 1) 252 st, zM am f] H := hP
  have hD : va_D A [zA (kk 1) (am 1) 252 st, zM am f] := hD
  refine lv_if_eq (tgt := 20) hx hb dX7_town_5 (by decide) (fun c_2 => ?_) (fun c_2 => ?_)
  · have h := h.1 c_2
    refine lv_iconst (v := (-1 : Int32)) hx hb dX7_town_20 (by decide) ?_
    exact zr_i hx hb hr hlk rfl hP hD hS () [1, 0] rfl (by decide) dX7_town_21 h
  · have h := h.2 c_2
    refine lv_iload_n hx hb dX7_town_8 rfl (lv_at hl 2 rfl) ?_
    refine lv_i2l hx hb dX7_town_9 rfl ?_
    refine lv_lconst (v := (0 : Int64)) hx hb dX7_town_10 (by decide) ?_
    refine lv_ldc2 (v := (4 : Int64)) hx hb hown (hts _ q1068) dX7_town_11 ?_
    refine zc_i (wc := []) (wr := [zA (kk 1) (am 1) 252 st, zM am f]) (w1 := (fun u : Unit => [])) (rest := []) [] [0, 1] rfl rfl (by decide) (by decide) (by decide) hA hP hD hS (fun hP hD => va_runS (As := [.long (p2.toInt64), .long (0 : Int64), .long (4 : Int64)]) (rest := []) ⟨hx, hb, hml, hown, hts⟩ (metX7_in l D kk _ (p2.toInt64) (0 : Int64) (4 : Int64) _ h) (va_cwS 3 hts (lw_S q1033 q1034 q71 q1035) rfl rfl rfl pdX7_in.2 ⟨(Nat.le_of_ble_eq_true rfl), (Nat.le_of_ble_eq_true rfl)⟩) (zp_S hK hN hP hD) rfl rfl hl.1 rfl (lv_room (Nat.le_of_ble_eq_true rfl)) dX7_town_14 ⟨(Nat.le_of_ble_eq_true rfl), (Nat.le_of_ble_eq_true rfl)⟩) (fun r_3 u H locs h hP hD hS => ?_)
    try dsimp only at h
    have hP : va_P D vwCl [zA (kk 1) (am 1) 252 st, zM am f] H := hP
    have hD : va_D A [zA (kk 1) (am 1) 252 st, zM am f] := hD
    refine lv_if_ne (tgt := 22) hx hb dX7_town_17 (by decide) (fun c_4 => ?_) (fun c_4 => ?_)
    · have h := h.2 c_4
      refine lv_iload_n hx hb dX7_town_22 rfl (lv_at hl 2 rfl) ?_
      refine lv_iconst (v := (4 : Int32)) hx hb dX7_town_23 (by decide) ?_
      refine lv_icmp_ge (tgt := 40) hx hb dX7_town_24 (by decide) (fun c_5 => ?_) (fun c_5 => ?_)
      · have h := h.1 c_5
        refine lv_aload_n hx hb dX7_town_40 rfl (lv_at hl 0 rfl) ?_
        refine lv_iconst (v := (0 : Int32)) hx hb dX7_town_41 (by decide) ?_
        refine lv_iload_n hx hb dX7_town_42 rfl (lv_at hl 1 rfl) ?_
        have hrc := va_recv hK hP (ci := 7) (q0 := 1) rfl rfl
        refine zc_i (wc := [zM am f, zA (kk 1) (am 1) 252 st]) (wr := []) (w1 := (fun u : Unit => [zM am f, zA (kk 1) (am 1) 252 st])) (rest := []) [1, 0] [] rfl rfl (by decide) (by decide) (by decide) hA hP hD hS (fun hP hD => va_runV (As := [.int (0 : Int32), .int p1]) (rest := []) ⟨hx, hb, hml, hown, hts⟩ (metX7_playsOn l D kk am _ f st (0 : Int32) p1 _ h) (cwV 2 hts (lw_V q1109 q1111 qs46 q71 q1112) rfl rfl rfl pdX7_playsOn ⟨(Nat.le_of_ble_eq_true rfl), (Nat.le_of_ble_eq_true rfl)⟩) (zp_V hK hN hrc hP hD) rfl rfl hl.1 rfl (lv_room (Nat.le_of_ble_eq_true rfl)) dX7_town_43 ⟨(Nat.le_of_ble_eq_true rfl), (Nat.le_of_ble_eq_true rfl)⟩) (fun r_6 u H locs h hP hD hS => ?_)
        try dsimp only at h
        have hP : va_P D vwCl [zM am f, zA (kk 1) (am 1) 252 st] H := hP
        have hD : va_D A [zM am f, zA (kk 1) (am 1) 252 st] := hD
        exact zr_i hx hb hr hlk rfl hP hD hS () [0, 1] rfl (by decide) dX7_town_46 h
      · have h := h.2 c_5
        refine lv_aload_n hx hb dX7_town_27 rfl (lv_at hl 0 rfl) ?_
        refine va_get (D := D) (ci := 7) (v := .ref (am 1)) (C := RX7) (T := TX7) (N := 29) hx hb hts in_X7 hown hK hP 1 rfl rfl 0 (Nat.le_of_ble_eq_true rfl) (hts _ q939) (fun _ h9 => h9) rfl dX7_town_28 ?_
        refine lv_iconst (v := (5 : Int32)) hx hb dX7_town_31 (by decide) ?_
        refine lv_iload_n hx hb dX7_town_32 rfl (lv_at hl 2 rfl) ?_
        refine lv_imul hx hb dX7_town_33 ?_
        refine lv_iload_n hx hb dX7_town_34 rfl (lv_at hl 1 rfl) ?_
        refine lv_iadd hx hb dX7_town_35 ?_
        obtain ⟨hin, h⟩ := h
        refine va_iald hx hb hK hP 0 1 rfl rfl hin dX7_town_36 ?_
        refine lv_goto (tgt := 46) hx hb dX7_town_37 (by decide) ?_
        exact zr_i hx hb hr hlk rfl hP hD hS () [1, 0] rfl (by decide) dX7_town_46 h
    · have h := h.1 c_4
      refine lv_iconst (v := (-1 : Int32)) hx hb dX7_town_20 (by decide) ?_
      exact zr_i hx hb hr hlk rfl hP hD hS () [1, 0] rfl (by decide) dX7_town_21 h
def wpX7_fixture (st : Nat → Int32) (p1 : Int32) (p2 : Int32) (Q : Int32 → Prop) : Prop :=
  (wpX7_isFixture st p1 (fun r_1 => ((r_1 = 0 → Q (-1 : Int32)) ∧ (¬ r_1 = 0 → (wpX7_in (p2.toInt64) (0 : Int64) (1 : Int64) (fun r_3 => ((r_3 = 0 → Q (-1 : Int32)) ∧ (¬ r_3 = 0 → (vp_in (((20 : Int32) + ((10 : Int32) * p2)) + p1) 252 ∧ Q (st (((20 : Int32) + ((10 : Int32) * p2)) + p1).toNatClampNeg))))))))))
set_option maxHeartbeats 4000000 in
theorem metX7_fixture (l : Launch) (D : va_G) (kk : Nat → ClassId) (am : Nat → Nat) (sz : Nat) (f : Nat → Int32) (st : Nat → Int32) (p1 : Int32) (p2 : Int32) (Q : Int32 → Prop) (h : wpX7_fixture st p1 p2 Q) : Met l yX7_fixture (ws_ yX7_fixture cX7_fixture 3 (some .int)) { frames := 2, cells := 0, slots := 0, locals := 46 } (va_Pc ([.ref (am 0), .int p1, .int p2] : List Value) (zPc D kk [zM am f, zA (kk 1) (am 1) 252 st] sz)) (va_Qi (fun (r : Int32) (u : Unit) => Q r ) (zB D (va_A [zM am f, zA (kk 1) (am 1) 252 st] sz) (fun u : Unit => [zM am f, zA (kk 1) (am 1) 252 st])) (va_A [zM am f, zA (kk 1) (am 1) 252 st] sz)) 0 0 (va_A [zM am f, zA (kk 1) (am 1) 252 st] sz) := by
  refine zMet (Qc := fun A => va_Qi (fun (r : Int32) (u : Unit) => Q r ) (zB D A (fun u : Unit => [zM am f, zA (kk 1) (am 1) 252 st])) A) (by decide) (Nat.le_of_ble_eq_true rfl) ?_
  intro p e s m below meth c A X hP hD hS ls hl
  obtain ⟨hx, hb, hr, hml, hown, hts, hlk, hnm, hK, hN, hA⟩ := X
  have hown : s.vm.findClass "LoseLeagueModel" = some m.cls := hown
  have hl : lv_has ls 3 [(0, .ref (am 0)), (1, .int p1), (2, .int p2)] := hl
  unfold wpX7_fixture at h
  refine lv_aload_n hx hb dX7_fixture_0 rfl (lv_at hl 0 rfl) ?_
  refine lv_iload_n hx hb dX7_fixture_1 rfl (lv_at hl 1 rfl) ?_
  have hrc := va_recv hK hP (ci := 7) (q0 := 0) rfl rfl
  refine zc_i (wc := [zM am f, zA (kk 1) (am 1) 252 st]) (wr := []) (w1 := (fun u : Unit => [zM am f, zA (kk 1) (am 1) 252 st])) (rest := []) [0, 1] [] rfl rfl (by decide) (by decide) (by decide) hA hP hD hS (fun hP hD => va_runV (As := [.int p1]) (rest := []) ⟨hx, hb, hml, hown, hts⟩ (metX7_isFixture l D kk am _ f st p1 _ h) (cwV 1 hts (lw_V q1117 q1119 qs47 q71 q1120) rfl rfl rfl pdX7_isFixture ⟨(Nat.le_of_ble_eq_true rfl), (Nat.le_of_ble_eq_true rfl)⟩) (zp_V hK hN hrc hP hD) rfl rfl hl.1 rfl (lv_room (Nat.le_of_ble_eq_true rfl)) dX7_fixture_2 ⟨(Nat.le_of_ble_eq_true rfl), (Nat.le_of_ble_eq_true rfl)⟩) (fun r_1 u H locs h hP hD hS => ?_)
  try dsimp only at h
  have hP : va_P D vwCl [zM am f, zA (kk 1) (am 1) 252 st] H := hP
  have hD : va_D A [zM am f, zA (kk 1) (am 1) 252 st] := hD
  refine lv_if_eq (tgt := 35) hx hb dX7_fixture_5 (by decide) (fun c_2 => ?_) (fun c_2 => ?_)
  · have h := h.1 c_2
    refine lv_iconst (v := (-1 : Int32)) hx hb dX7_fixture_35 (by decide) ?_
    exact zr_i hx hb hr hlk rfl hP hD hS () [0, 1] rfl (by decide) dX7_fixture_36 h
  · have h := h.2 c_2
    refine lv_iload_n hx hb dX7_fixture_8 rfl (lv_at hl 2 rfl) ?_
    refine lv_i2l hx hb dX7_fixture_9 rfl ?_
    refine lv_lconst (v := (0 : Int64)) hx hb dX7_fixture_10 (by decide) ?_
    refine lv_lconst (v := (1 : Int64)) hx hb dX7_fixture_11 (by decide) ?_
    refine zc_i (wc := []) (wr := [zM am f, zA (kk 1) (am 1) 252 st]) (w1 := (fun u : Unit => [])) (rest := []) [] [0, 1] rfl rfl (by decide) (by decide) (by decide) hA hP hD hS (fun hP hD => va_runS (As := [.long (p2.toInt64), .long (0 : Int64), .long (1 : Int64)]) (rest := []) ⟨hx, hb, hml, hown, hts⟩ (metX7_in l D kk _ (p2.toInt64) (0 : Int64) (1 : Int64) _ h) (va_cwS 3 hts (lw_S q1033 q1034 q71 q1035) rfl rfl rfl pdX7_in.2 ⟨(Nat.le_of_ble_eq_true rfl), (Nat.le_of_ble_eq_true rfl)⟩) (zp_S hK hN hP hD) rfl rfl hl.1 rfl (lv_room (Nat.le_of_ble_eq_true rfl)) dX7_fixture_12 ⟨(Nat.le_of_ble_eq_true rfl), (Nat.le_of_ble_eq_true rfl)⟩) (fun r_3 u H locs h hP hD hS => ?_)
    try dsimp only at h
    have hP : va_P D vwCl [zM am f, zA (kk 1) (am 1) 252 st] H := hP
    have hD : va_D A [zM am f, zA (kk 1) (am 1) 252 st] := hD
    refine lv_if_eq (tgt := 35) hx hb dX7_fixture_15 (by decide) (fun c_4 => ?_) (fun c_4 => ?_)
    · have h := h.1 c_4
      refine lv_iconst (v := (-1 : Int32)) hx hb dX7_fixture_35 (by decide) ?_
      exact zr_i hx hb hr hlk rfl hP hD hS () [0, 1] rfl (by decide) dX7_fixture_36 h
    · have h := h.2 c_4
      refine lv_aload_n hx hb dX7_fixture_18 rfl (lv_at hl 0 rfl) ?_
      refine va_get (D := D) (ci := 7) (v := .ref (am 1)) (C := RX7) (T := TX7) (N := 29) hx hb hts in_X7 hown hK hP 0 rfl rfl 0 (Nat.le_of_ble_eq_true rfl) (hts _ q939) (fun _ h9 => h9) rfl dX7_fixture_19 ?_
      refine lv_bipush (v := (20 : Int32)) hx hb dX7_fixture_22 (by decide) ?_
      refine lv_bipush (v := (10 : Int32)) hx hb dX7_fixture_24 (by decide) ?_
      refine lv_iload_n hx hb dX7_fixture_26 rfl (lv_at hl 2 rfl) ?_
      refine lv_imul hx hb dX7_fixture_27 ?_
      refine lv_iadd hx hb dX7_fixture_28 ?_
      refine lv_iload_n hx hb dX7_fixture_29 rfl (lv_at hl 1 rfl) ?_
      refine lv_iadd hx hb dX7_fixture_30 ?_
      obtain ⟨hin, h⟩ := h
      refine va_iald hx hb hK hP 1 1 rfl rfl hin dX7_fixture_31 ?_
      refine lv_goto (tgt := 36) hx hb dX7_fixture_32 (by decide) ?_
      exact zr_i hx hb hr hlk rfl hP hD hS () [0, 1] rfl (by decide) dX7_fixture_36 h
def wpX7_game (f : Nat → Int32) (st : Nat → Int32) (p1 : Int32) (p2 : Int32) (Q : Int32 → Prop) : Prop :=
  (wpX7_isPair f p1 p2 (fun r_1 => ((r_1 = 0 → Q (-1 : Int32)) ∧ (¬ r_1 = 0 → (wpX7_gameOn st (0 : Int32) p1 p2 (fun r_3 => Q r_3))))))
set_option maxHeartbeats 4000000 in
theorem metX7_game (l : Launch) (D : va_G) (kk : Nat → ClassId) (am : Nat → Nat) (sz : Nat) (f : Nat → Int32) (st : Nat → Int32) (p1 : Int32) (p2 : Int32) (Q : Int32 → Prop) (h : wpX7_game f st p1 p2 Q) : Met l yX7_game (ws_ yX7_game cX7_game 3 (some .int)) { frames := 3, cells := 0, slots := 0, locals := 68 } (va_Pc ([.ref (am 0), .int p1, .int p2] : List Value) (zPc D kk [zM am f, zA (kk 1) (am 1) 252 st] sz)) (va_Qi (fun (r : Int32) (u : Unit) => Q r ) (zB D (va_A [zM am f, zA (kk 1) (am 1) 252 st] sz) (fun u : Unit => [zM am f, zA (kk 1) (am 1) 252 st])) (va_A [zM am f, zA (kk 1) (am 1) 252 st] sz)) 0 0 (va_A [zM am f, zA (kk 1) (am 1) 252 st] sz) := by
  refine zMet (Qc := fun A => va_Qi (fun (r : Int32) (u : Unit) => Q r ) (zB D A (fun u : Unit => [zM am f, zA (kk 1) (am 1) 252 st])) A) (by decide) (Nat.le_of_ble_eq_true rfl) ?_
  intro p e s m below meth c A X hP hD hS ls hl
  obtain ⟨hx, hb, hr, hml, hown, hts, hlk, hnm, hK, hN, hA⟩ := X
  have hown : s.vm.findClass "LoseLeagueModel" = some m.cls := hown
  have hl : lv_has ls 3 [(0, .ref (am 0)), (1, .int p1), (2, .int p2)] := hl
  unfold wpX7_game at h
  refine lv_aload_n hx hb dX7_game_0 rfl (lv_at hl 0 rfl) ?_
  refine lv_iload_n hx hb dX7_game_1 rfl (lv_at hl 1 rfl) ?_
  refine lv_iload_n hx hb dX7_game_2 rfl (lv_at hl 2 rfl) ?_
  have hrc := va_recv hK hP (ci := 7) (q0 := 0) rfl rfl
  refine zc_i (wc := [zM am f]) (wr := [zA (kk 1) (am 1) 252 st]) (w1 := (fun u : Unit => [zM am f])) (rest := []) [0] [1] rfl rfl (by decide) (by decide) (by decide) hA hP hD hS (fun hP hD => va_runV (As := [.int p1, .int p2]) (rest := []) ⟨hx, hb, hml, hown, hts⟩ (metX7_isPair l D kk am _ f p1 p2 _ h) (cwV 2 hts (lw_V q1125 q1127 qs48 q71 q1128) rfl rfl rfl pdX7_isPair ⟨(Nat.le_of_ble_eq_true rfl), (Nat.le_of_ble_eq_true rfl)⟩) (zp_V hK hN hrc hP hD) rfl rfl hl.1 rfl (lv_room (Nat.le_of_ble_eq_true rfl)) dX7_game_3 ⟨(Nat.le_of_ble_eq_true rfl), (Nat.le_of_ble_eq_true rfl)⟩) (fun r_1 u H locs h hP hD hS => ?_)
  try dsimp only at h
  have hP : va_P D vwCl [zA (kk 1) (am 1) 252 st, zM am f] H := hP
  have hD : va_D A [zA (kk 1) (am 1) 252 st, zM am f] := hD
  refine lv_if_eq (tgt := 19) hx hb dX7_game_6 (by decide) (fun c_2 => ?_) (fun c_2 => ?_)
  · have h := h.1 c_2
    refine lv_iconst (v := (-1 : Int32)) hx hb dX7_game_19 (by decide) ?_
    exact zr_i hx hb hr hlk rfl hP hD hS () [1, 0] rfl (by decide) dX7_game_20 h
  · have h := h.2 c_2
    refine lv_aload_n hx hb dX7_game_9 rfl (lv_at hl 0 rfl) ?_
    refine lv_iconst (v := (0 : Int32)) hx hb dX7_game_10 (by decide) ?_
    refine lv_iload_n hx hb dX7_game_11 rfl (lv_at hl 1 rfl) ?_
    refine lv_iload_n hx hb dX7_game_12 rfl (lv_at hl 2 rfl) ?_
    have hrc := va_recv hK hP (ci := 7) (q0 := 1) rfl rfl
    refine zc_i (wc := [zM am f, zA (kk 1) (am 1) 252 st]) (wr := []) (w1 := (fun u : Unit => [zM am f, zA (kk 1) (am 1) 252 st])) (rest := []) [1, 0] [] rfl rfl (by decide) (by decide) (by decide) hA hP hD hS (fun hP hD => va_runV (As := [.int (0 : Int32), .int p1, .int p2]) (rest := []) ⟨hx, hb, hml, hown, hts⟩ (metX7_gameOn l D kk am _ f st (0 : Int32) p1 p2 _ h) (cwV 3 hts (lw_V q1129 q1131 qs49 q71 q1132) rfl rfl rfl pdX7_gameOn ⟨(Nat.le_of_ble_eq_true rfl), (Nat.le_of_ble_eq_true rfl)⟩) (zp_V hK hN hrc hP hD) rfl rfl hl.1 rfl (lv_room (Nat.le_of_ble_eq_true rfl)) dX7_game_13 ⟨(Nat.le_of_ble_eq_true rfl), (Nat.le_of_ble_eq_true rfl)⟩) (fun r_3 u H locs h hP hD hS => ?_)
    try dsimp only at h
    have hP : va_P D vwCl [zM am f, zA (kk 1) (am 1) 252 st] H := hP
    have hD : va_D A [zM am f, zA (kk 1) (am 1) 252 st] := hD
    refine lv_goto (tgt := 20) hx hb dX7_game_16 (by decide) ?_
    exact zr_i hx hb hr hlk rfl hP hD hS () [0, 1] rfl (by decide) dX7_game_20 h
def wpX7_puts (st : Nat → Int32) (p1 : Int32) (p2 : Int32) (p3 : Int32) (Q : Int32 → (Nat → Int32) → Prop) : Prop :=
  ((p1 = 0 → Q (-1 : Int32) st) ∧ (¬ p1 = 0 → (vp_in p2 252 ∧ (vp_in p2 252 ∧ Q (st p2.toNatClampNeg) (upd st p2.toNatClampNeg p3)))))
set_option maxHeartbeats 4000000 in
theorem metX7_puts (l : Launch) (D : va_G) (kk : Nat → ClassId) (am : Nat → Nat) (sz : Nat) (f : Nat → Int32) (st : Nat → Int32) (p1 : Int32) (p2 : Int32) (p3 : Int32) (Q : Int32 → (Nat → Int32) → Prop) (h : wpX7_puts st p1 p2 p3 Q) : Met l yX7_puts (ws_ yX7_puts cX7_puts 5 (some .int)) { frames := 0, cells := 0, slots := 0, locals := 0 } (va_Pc ([.ref (am 0), .int p1, .int p2, .int p3] : List Value) (zPc D kk [zM am f, zA (kk 1) (am 1) 252 st] sz)) (va_Qi (fun (r : Int32) (u : (Nat → Int32)) => Q r u) (zB D (va_A [zM am f, zA (kk 1) (am 1) 252 st] sz) (fun u : (Nat → Int32) => [zM am f, zA (kk 1) (am 1) 252 u])) (va_A [zM am f, zA (kk 1) (am 1) 252 st] sz)) 0 0 (va_A [zM am f, zA (kk 1) (am 1) 252 st] sz) := by
  refine zMet (Qc := fun A => va_Qi (fun (r : Int32) (u : (Nat → Int32)) => Q r u) (zB D A (fun u : (Nat → Int32) => [zM am f, zA (kk 1) (am 1) 252 u])) A) (by decide) (Nat.le_of_ble_eq_true rfl) ?_
  intro p e s m below meth c A X hP hD hS ls hl
  obtain ⟨hx, hb, hr, hml, hown, hts, hlk, hnm, hK, hN, hA⟩ := X
  have hown : s.vm.findClass "LoseLeagueModel" = some m.cls := hown
  have hl : lv_has ls 5 [(0, .ref (am 0)), (1, .int p1), (2, .int p2), (3, .int p3)] := hl
  unfold wpX7_puts at h
  refine lv_iload_n hx hb dX7_puts_0 rfl (lv_at hl 1 rfl) ?_
  refine lv_if_ne (tgt := 6) hx hb dX7_puts_1 (by decide) (fun c_1 => ?_) (fun c_1 => ?_)
  · have h := h.2 c_1
    refine lv_aload_n hx hb dX7_puts_6 rfl (lv_at hl 0 rfl) ?_
    refine va_get (D := D) (ci := 7) (v := .ref (am 1)) (C := RX7) (T := TX7) (N := 29) hx hb hts in_X7 hown hK hP 0 rfl rfl 0 (Nat.le_of_ble_eq_true rfl) (hts _ q939) (fun _ h9 => h9) rfl dX7_puts_7 ?_
    refine lv_iload_n hx hb dX7_puts_10 rfl (lv_at hl 2 rfl) ?_
    obtain ⟨hin, h⟩ := h
    refine va_iald hx hb hK hP 1 1 rfl rfl hin dX7_puts_11 ?_
    refine lv_istore (lv' := [(4, .int (st p2.toNatClampNeg)), (0, .ref (am 0)), (1, .int p1), (2, .int p2), (3, .int p3)]) hx hb dX7_puts_12 hl (by decide) rfl (fun ls hl => ?_)
    refine lv_aload_n hx hb dX7_puts_14 rfl (lv_at hl 1 rfl) ?_
    refine va_get (D := D) (ci := 7) (v := .ref (am 1)) (C := RX7) (T := TX7) (N := 29) hx hb hts in_X7 hown hK hP 0 rfl rfl 0 (Nat.le_of_ble_eq_true rfl) (hts _ q939) (fun _ h9 => h9) rfl dX7_puts_15 ?_
    refine lv_iload_n hx hb dX7_puts_18 rfl (lv_at hl 3 rfl) ?_
    refine lv_iload_n hx hb dX7_puts_19 rfl (lv_at hl 4 rfl) ?_
    obtain ⟨hin, h⟩ := h
    refine va_iast hx hb hK hP hD hS 1 1 rfl rfl hin dX7_puts_20 (fun H locs hP hD hS => ?_)
    have hP : va_P D vwCl [zM am f, zA (kk 1) (am 1) 252 (upd st p2.toNatClampNeg p3)] H := hP
    have hD : va_D A [zM am f, zA (kk 1) (am 1) 252 (upd st p2.toNatClampNeg p3)] := hD
    refine lv_iload hx hb dX7_puts_21 (lv_at hl 0 rfl) ?_
    exact zr_i hx hb hr hlk rfl hP hD hS ((upd st p2.toNatClampNeg p3)) [0, 1] rfl (by decide) dX7_puts_23 h
  · have h := h.1 c_1
    refine lv_iconst (v := (-1 : Int32)) hx hb dX7_puts_4 (by decide) ?_
    exact zr_i hx hb hr hlk rfl hP hD hS (st) [0, 1] rfl (by decide) dX7_puts_5 h
def wpX7_alter_60 (f : Nat → Int32) (p1 : Int32) (p2 : Int32) (p3 : Int32) (Q : Int32 → (Nat → Int32) → Prop) (st : Nat → Int32) (s1 : Int32) : Prop :=
  (wpX7_puts st s1 (((5 : Int32) * p2) + p1) p3 (fun r_2 st_3 => Q r_2 st_3))
def wpX7_alter_59 (f : Nat → Int32) (p1 : Int32) (p2 : Int32) (p3 : Int32) (Q : Int32 → (Nat → Int32) → Prop) (st : Nat → Int32) : Prop :=
  wpX7_alter_60 f p1 p2 p3 Q  st (0 : Int32)
def wpX7_alter_20 (f : Nat → Int32) (p1 : Int32) (p2 : Int32) (p3 : Int32) (Q : Int32 → (Nat → Int32) → Prop) (st : Nat → Int32) (s0 : Int32) : Prop :=
  (wpX7_isTown f p1 (fun r_1 => ((r_1 = 0 → wpX7_alter_59 f p1 p2 p3 Q  st) ∧ (¬ r_1 = 0 → (wpX7_in (p2.toInt64) (0 : Int64) (3 : Int64) (fun r_5 => ((r_5 = 0 → wpX7_alter_59 f p1 p2 p3 Q  st) ∧ (¬ r_5 = 0 → (wpX7_in (p3.toInt64) (0 : Int64) (s0.toInt64) (fun r_7 => ((r_7 = 0 → wpX7_alter_59 f p1 p2 p3 Q  st) ∧ (¬ r_7 = 0 → wpX7_alter_60 f p1 p2 p3 Q  st (1 : Int32)))))))))))))
def wpX7_alter (f : Nat → Int32) (st : Nat → Int32) (p1 : Int32) (p2 : Int32) (p3 : Int32) (Q : Int32 → (Nat → Int32) → Prop) : Prop :=
  ((p2 = 0 → wpX7_alter_20 f p1 p2 p3 Q  st (3 : Int32)) ∧ (¬ p2 = 0 → ((p2 = (1 : Int32) → wpX7_alter_20 f p1 p2 p3 Q  st (20 : Int32)) ∧ (¬ p2 = (1 : Int32) → wpX7_alter_20 f p1 p2 p3 Q  st (99 : Int32)))))
set_option maxHeartbeats 4000000 in
theorem metX7_alter (l : Launch) (D : va_G) (kk : Nat → ClassId) (am : Nat → Nat) (sz : Nat) (f : Nat → Int32) (st : Nat → Int32) (p1 : Int32) (p2 : Int32) (p3 : Int32) (Q : Int32 → (Nat → Int32) → Prop) (h : wpX7_alter f st p1 p2 p3 Q) : Met l yX7_alter (ws_ yX7_alter cX7_alter 5 (some .int)) { frames := 2, cells := 0, slots := 0, locals := 46 } (va_Pc ([.ref (am 0), .int p1, .int p2, .int p3] : List Value) (zPc D kk [zM am f, zA (kk 1) (am 1) 252 st] sz)) (va_Qi (fun (r : Int32) (u : (Nat → Int32)) => Q r u) (zB D (va_A [zM am f, zA (kk 1) (am 1) 252 st] sz) (fun u : (Nat → Int32) => [zM am f, zA (kk 1) (am 1) 252 u])) (va_A [zM am f, zA (kk 1) (am 1) 252 st] sz)) 0 0 (va_A [zM am f, zA (kk 1) (am 1) 252 st] sz) := by
  refine zMet (Qc := fun A => va_Qi (fun (r : Int32) (u : (Nat → Int32)) => Q r u) (zB D A (fun u : (Nat → Int32) => [zM am f, zA (kk 1) (am 1) 252 u])) A) (by decide) (Nat.le_of_ble_eq_true rfl) ?_
  intro p e s m below meth c A X hP hD hS ls hl
  obtain ⟨hx, hb, hr, hml, hown, hts, hlk, hnm, hK, hN, hA⟩ := X
  have hown : s.vm.findClass "LoseLeagueModel" = some m.cls := hown
  have hl : lv_has ls 5 [(0, .ref (am 0)), (1, .int p1), (2, .int p2), (3, .int p3)] := hl
  unfold wpX7_alter at h
  refine lv_iload_n hx hb dX7_alter_0 rfl (lv_at hl 2 rfl) ?_
  have cut_20 : ∀ (st : Nat → Int32) (s0 : Int32), wpX7_alter_20 f p1 p2 p3 Q  st s0 → ∀ (H : Heap) (locs : List Loc), va_P D vwCl [zM am f, zA (kk 1) (am 1) 252 st] H → va_D A [zM am f, zA (kk 1) (am 1) 252 st] → va_S A s.heap H locs → ∀ ls : Array Slot, lv_has ls 5 [(0, .ref (am 0)), (1, .int p1), (2, .int p2), (3, .int p3)] → W p l e { frames := 2, cells := 0, slots := 0, locals := 46 } s m ([.ref (am 0), .int p1, .int p2, .int p3] : List Value).toArray below meth c H locs 0 0 (MQ below (va_Qi (fun (r : Int32) (u : (Nat → Int32)) => Q r u) (zB D A (fun u : (Nat → Int32) => [zM am f, zA (kk 1) (am 1) 252 u])) A) ([.ref (am 0), .int p1, .int p2, .int p3] : List Value).toArray s 0 0 A) (F0 m 20 ls [.int s0]) := by
    intro st s0 h H locs hP hD hS ls hl
    unfold wpX7_alter_20 at h
    refine lv_istore (lv' := [(4, .int s0), (0, .ref (am 0)), (1, .int p1), (2, .int p2), (3, .int p3)]) hx hb dX7_alter_20 hl (by decide) rfl (fun ls hl => ?_)
    refine lv_aload_n hx hb dX7_alter_22 rfl (lv_at hl 1 rfl) ?_
    refine lv_aload_n hx hb dX7_alter_23 rfl (lv_at hl 1 rfl) ?_
    refine lv_iload_n hx hb dX7_alter_24 rfl (lv_at hl 2 rfl) ?_
    have hrc := va_recv hK hP (ci := 7) (q0 := 0) rfl rfl
    refine zc_i (wc := [zM am f]) (wr := [zA (kk 1) (am 1) 252 st]) (w1 := (fun u : Unit => [zM am f])) (rest := [.ref (am 0)]) [0] [1] rfl rfl (by decide) (by decide) (by decide) hA hP hD hS (fun hP hD => va_runV (As := [.int p1]) (rest := [.ref (am 0)]) ⟨hx, hb, hml, hown, hts⟩ (metX7_isTown l D kk am _ f p1 _ h) (cwV 1 hts (lw_V q1105 q1107 qs45 q71 q1108) rfl rfl rfl pdX7_isTown ⟨(Nat.le_of_ble_eq_true rfl), (Nat.le_of_ble_eq_true rfl)⟩) (zp_V hK hN hrc hP hD) rfl rfl hl.1 rfl (lv_room (Nat.le_of_ble_eq_true rfl)) dX7_alter_25 ⟨(Nat.le_of_ble_eq_true rfl), (Nat.le_of_ble_eq_true rfl)⟩) (fun r_1 u H locs h hP hD hS => ?_)
    try dsimp only at h
    have hP : va_P D vwCl [zA (kk 1) (am 1) 252 st, zM am f] H := hP
    have hD : va_D A [zA (kk 1) (am 1) 252 st, zM am f] := hD
    have cut_60 : ∀ (st : Nat → Int32) (s1 : Int32), wpX7_alter_60 f p1 p2 p3 Q  st s1 → ∀ (H : Heap) (locs : List Loc), va_P D vwCl [zM am f, zA (kk 1) (am 1) 252 st] H → va_D A [zM am f, zA (kk 1) (am 1) 252 st] → va_S A s.heap H locs → ∀ ls : Array Slot, lv_has ls 5 [(1, .int p1), (2, .int p2), (3, .int p3)] → W p l e { frames := 2, cells := 0, slots := 0, locals := 46 } s m ([.ref (am 0), .int p1, .int p2, .int p3] : List Value).toArray below meth c H locs 0 0 (MQ below (va_Qi (fun (r : Int32) (u : (Nat → Int32)) => Q r u) (zB D A (fun u : (Nat → Int32) => [zM am f, zA (kk 1) (am 1) 252 u])) A) ([.ref (am 0), .int p1, .int p2, .int p3] : List Value).toArray s 0 0 A) (F0 m 60 ls [.int s1, .ref (am 0)]) := by
      intro st s1 h H locs hP hD hS ls hl
      unfold wpX7_alter_60 at h
      refine lv_iconst (v := (5 : Int32)) hx hb dX7_alter_60 (by decide) ?_
      refine lv_iload_n hx hb dX7_alter_61 rfl (lv_at hl 1 rfl) ?_
      refine lv_imul hx hb dX7_alter_62 ?_
      refine lv_iload_n hx hb dX7_alter_63 rfl (lv_at hl 0 rfl) ?_
      refine lv_iadd hx hb dX7_alter_64 ?_
      refine lv_iload_n hx hb dX7_alter_65 rfl (lv_at hl 2 rfl) ?_
      have hrc := va_recv hK hP (ci := 7) (q0 := 0) rfl rfl
      refine zc_i (wc := [zM am f, zA (kk 1) (am 1) 252 st]) (wr := []) (w1 := (fun u : (Nat → Int32) => [zM am f, zA (kk 1) (am 1) 252 u])) (rest := []) [0, 1] [] rfl rfl (by decide) (by decide) (by decide) hA hP hD hS (fun hP hD => va_runV (As := [.int s1, .int (((5 : Int32) * p2) + p1), .int p3]) (rest := []) ⟨hx, hb, hml, hown, hts⟩ (metX7_puts l D kk am _ f st s1 (((5 : Int32) * p2) + p1) p3 _ h) (cwV 3 hts (lw_V q1138 q1140 qs50 q71 q1141) rfl rfl rfl pdX7_puts ⟨(Nat.le_of_ble_eq_true rfl), (Nat.le_of_ble_eq_true rfl)⟩) (zp_V hK hN hrc hP hD) rfl rfl hl.1 rfl (lv_room (Nat.le_of_ble_eq_true rfl)) dX7_alter_66 ⟨(Nat.le_of_ble_eq_true rfl), (Nat.le_of_ble_eq_true rfl)⟩) (fun r_2 u H locs h hP hD hS => ?_)
      obtain ⟨st_3, rfl⟩ : ∃ z, z = u := ⟨_, rfl⟩
      try dsimp only at h
      have hP : va_P D vwCl [zM am f, zA (kk 1) (am 1) 252 st_3] H := hP
      have hD : va_D A [zM am f, zA (kk 1) (am 1) 252 st_3] := hD
      exact zr_i hx hb hr hlk rfl hP hD hS (st_3) [0, 1] rfl (by decide) dX7_alter_69 h
    have cut_59 : ∀ (st : Nat → Int32), wpX7_alter_59 f p1 p2 p3 Q  st → ∀ (H : Heap) (locs : List Loc), va_P D vwCl [zM am f, zA (kk 1) (am 1) 252 st] H → va_D A [zM am f, zA (kk 1) (am 1) 252 st] → va_S A s.heap H locs → ∀ ls : Array Slot, lv_has ls 5 [(1, .int p1), (2, .int p2), (3, .int p3)] → W p l e { frames := 2, cells := 0, slots := 0, locals := 46 } s m ([.ref (am 0), .int p1, .int p2, .int p3] : List Value).toArray below meth c H locs 0 0 (MQ below (va_Qi (fun (r : Int32) (u : (Nat → Int32)) => Q r u) (zB D A (fun u : (Nat → Int32) => [zM am f, zA (kk 1) (am 1) 252 u])) A) ([.ref (am 0), .int p1, .int p2, .int p3] : List Value).toArray s 0 0 A) (F0 m 59 ls [.ref (am 0)]) := by
      intro st h H locs hP hD hS ls hl
      unfold wpX7_alter_59 at h
      refine lv_iconst (v := (0 : Int32)) hx hb dX7_alter_59 (by decide) ?_
      exact cut_60 st (0 : Int32) h _ _ hP hD hS _ (lv_sub hl [0, 1, 2] rfl)
    refine lv_if_eq (tgt := 59) hx hb dX7_alter_28 (by decide) (fun c_4 => ?_) (fun c_4 => ?_)
    · have h := h.1 c_4
      exact cut_59 st h _ _ (hP.sub [1, 0] rfl) (hD.sub [1, 0] (by decide) rfl) hS _ (lv_sub hl [2, 3, 4] rfl)
    · have h := h.2 c_4
      refine lv_iload_n hx hb dX7_alter_31 rfl (lv_at hl 3 rfl) ?_
      refine lv_i2l hx hb dX7_alter_32 rfl ?_
      refine lv_lconst (v := (0 : Int64)) hx hb dX7_alter_33 (by decide) ?_
      refine lv_ldc2 (v := (3 : Int64)) hx hb hown (hts _ q1137) dX7_alter_34 ?_
      refine zc_i (wc := []) (wr := [zA (kk 1) (am 1) 252 st, zM am f]) (w1 := (fun u : Unit => [])) (rest := [.ref (am 0)]) [] [0, 1] rfl rfl (by decide) (by decide) (by decide) hA hP hD hS (fun hP hD => va_runS (As := [.long (p2.toInt64), .long (0 : Int64), .long (3 : Int64)]) (rest := [.ref (am 0)]) ⟨hx, hb, hml, hown, hts⟩ (metX7_in l D kk _ (p2.toInt64) (0 : Int64) (3 : Int64) _ h) (va_cwS 3 hts (lw_S q1033 q1034 q71 q1035) rfl rfl rfl pdX7_in.2 ⟨(Nat.le_of_ble_eq_true rfl), (Nat.le_of_ble_eq_true rfl)⟩) (zp_S hK hN hP hD) rfl rfl hl.1 rfl (lv_room (Nat.le_of_ble_eq_true rfl)) dX7_alter_37 ⟨(Nat.le_of_ble_eq_true rfl), (Nat.le_of_ble_eq_true rfl)⟩) (fun r_5 u H locs h hP hD hS => ?_)
      try dsimp only at h
      have hP : va_P D vwCl [zA (kk 1) (am 1) 252 st, zM am f] H := hP
      have hD : va_D A [zA (kk 1) (am 1) 252 st, zM am f] := hD
      refine lv_if_eq (tgt := 59) hx hb dX7_alter_40 (by decide) (fun c_6 => ?_) (fun c_6 => ?_)
      · have h := h.1 c_6
        exact cut_59 st h _ _ (hP.sub [1, 0] rfl) (hD.sub [1, 0] (by decide) rfl) hS _ (lv_sub hl [2, 3, 4] rfl)
      · have h := h.2 c_6
        refine lv_iload_n hx hb dX7_alter_43 rfl (lv_at hl 4 rfl) ?_
        refine lv_i2l hx hb dX7_alter_44 rfl ?_
        refine lv_lconst (v := (0 : Int64)) hx hb dX7_alter_45 (by decide) ?_
        refine lv_iload hx hb dX7_alter_46 (lv_at hl 0 rfl) ?_
        refine lv_i2l hx hb dX7_alter_48 rfl ?_
        refine zc_i (wc := []) (wr := [zA (kk 1) (am 1) 252 st, zM am f]) (w1 := (fun u : Unit => [])) (rest := [.ref (am 0)]) [] [0, 1] rfl rfl (by decide) (by decide) (by decide) hA hP hD hS (fun hP hD => va_runS (As := [.long (p3.toInt64), .long (0 : Int64), .long (s0.toInt64)]) (rest := [.ref (am 0)]) ⟨hx, hb, hml, hown, hts⟩ (metX7_in l D kk _ (p3.toInt64) (0 : Int64) (s0.toInt64) _ h) (va_cwS 3 hts (lw_S q1033 q1034 q71 q1035) rfl rfl rfl pdX7_in.2 ⟨(Nat.le_of_ble_eq_true rfl), (Nat.le_of_ble_eq_true rfl)⟩) (zp_S hK hN hP hD) rfl rfl hl.1 rfl (lv_room (Nat.le_of_ble_eq_true rfl)) dX7_alter_49 ⟨(Nat.le_of_ble_eq_true rfl), (Nat.le_of_ble_eq_true rfl)⟩) (fun r_7 u H locs h hP hD hS => ?_)
        try dsimp only at h
        have hP : va_P D vwCl [zA (kk 1) (am 1) 252 st, zM am f] H := hP
        have hD : va_D A [zA (kk 1) (am 1) 252 st, zM am f] := hD
        refine lv_if_eq (tgt := 59) hx hb dX7_alter_52 (by decide) (fun c_8 => ?_) (fun c_8 => ?_)
        · have h := h.1 c_8
          exact cut_59 st h _ _ (hP.sub [1, 0] rfl) (hD.sub [1, 0] (by decide) rfl) hS _ (lv_sub hl [2, 3, 4] rfl)
        · have h := h.2 c_8
          refine lv_iconst (v := (1 : Int32)) hx hb dX7_alter_55 (by decide) ?_
          refine lv_goto (tgt := 60) hx hb dX7_alter_56 (by decide) ?_
          exact cut_60 st (1 : Int32) h _ _ (hP.sub [1, 0] rfl) (hD.sub [1, 0] (by decide) rfl) hS _ (lv_sub hl [2, 3, 4] rfl)
  refine lv_if_ne (tgt := 8) hx hb dX7_alter_1 (by decide) (fun c_9 => ?_) (fun c_9 => ?_)
  · have h := h.2 c_9
    refine lv_iload_n hx hb dX7_alter_8 rfl (lv_at hl 2 rfl) ?_
    refine lv_iconst (v := (1 : Int32)) hx hb dX7_alter_9 (by decide) ?_
    refine lv_icmp_ne (tgt := 18) hx hb dX7_alter_10 (by decide) (fun c_10 => ?_) (fun c_10 => ?_)
    · have h := h.2 c_10
      refine lv_bipush (v := (99 : Int32)) hx hb dX7_alter_18 (by decide) ?_
      exact cut_20 st (99 : Int32) h _ _ hP hD hS _ (lv_sub hl [0, 1, 2, 3] rfl)
    · have h := h.1 c_10
      refine lv_bipush (v := (20 : Int32)) hx hb dX7_alter_13 (by decide) ?_
      refine lv_goto (tgt := 20) hx hb dX7_alter_15 (by decide) ?_
      exact cut_20 st (20 : Int32) h _ _ hP hD hS _ (lv_sub hl [0, 1, 2, 3] rfl)
  · have h := h.1 c_9
    refine lv_iconst (v := (3 : Int32)) hx hb dX7_alter_4 (by decide) ?_
    refine lv_goto (tgt := 20) hx hb dX7_alter_5 (by decide) ?_
    exact cut_20 st (3 : Int32) h _ _ hP hD hS _ (lv_sub hl [0, 1, 2, 3] rfl)
def wpX7_lendsOn (st : Nat → Int32) (p1 : Int32) (p2 : Int32) (p3 : Int32) (p4 : Int32) (Q : Int32 → (Nat → Int32) → Prop) : Prop :=
  (vp_in ((p1 + (5 : Int32)) + p2) 252 ∧ ((p4 ≤ (st ((p1 + (5 : Int32)) + p2).toNatClampNeg) → (vp_in ((p1 + (5 : Int32)) + p3) 252 ∧ ((((st ((p1 + (5 : Int32)) + p3).toNatClampNeg) + p4) ≤ (20 : Int32) → (vp_in ((p1 + (5 : Int32)) + p2) 252 ∧ (∀ v_3 : Int32, v_3 = ((st ((p1 + (5 : Int32)) + p2).toNatClampNeg) - p4) → (vp_in ((p1 + (5 : Int32)) + p2) 252 ∧ (vp_in ((p1 + (5 : Int32)) + p3) 252 ∧ (∀ v_4 : Int32, v_4 = (((upd st ((p1 + (5 : Int32)) + p2).toNatClampNeg v_3) ((p1 + (5 : Int32)) + p3).toNatClampNeg) + p4) → (vp_in ((p1 + (5 : Int32)) + p3) 252 ∧ (vp_in ((p1 + (5 : Int32)) + p2) 252 ∧ Q ((upd (upd st ((p1 + (5 : Int32)) + p2).toNatClampNeg v_3) ((p1 + (5 : Int32)) + p3).toNatClampNeg v_4) ((p1 + (5 : Int32)) + p2).toNatClampNeg) (upd (upd st ((p1 + (5 : Int32)) + p2).toNatClampNeg v_3) ((p1 + (5 : Int32)) + p3).toNatClampNeg v_4))))))))) ∧ (¬ ((st ((p1 + (5 : Int32)) + p3).toNatClampNeg) + p4) ≤ (20 : Int32) → Q (-3 : Int32) st)))) ∧ (¬ p4 ≤ (st ((p1 + (5 : Int32)) + p2).toNatClampNeg) → Q (-2 : Int32) st)))
set_option maxHeartbeats 4000000 in
theorem metX7_lendsOn (l : Launch) (D : va_G) (kk : Nat → ClassId) (am : Nat → Nat) (sz : Nat) (f : Nat → Int32) (st : Nat → Int32) (p1 : Int32) (p2 : Int32) (p3 : Int32) (p4 : Int32) (Q : Int32 → (Nat → Int32) → Prop) (h : wpX7_lendsOn st p1 p2 p3 p4 Q) : Met l yX7_lendsOn (ws_ yX7_lendsOn cX7_lendsOn 5 (some .int)) { frames := 0, cells := 0, slots := 0, locals := 0 } (va_Pc ([.ref (am 0), .int p1, .int p2, .int p3, .int p4] : List Value) (zPc D kk [zM am f, zA (kk 1) (am 1) 252 st] sz)) (va_Qi (fun (r : Int32) (u : (Nat → Int32)) => Q r u) (zB D (va_A [zM am f, zA (kk 1) (am 1) 252 st] sz) (fun u : (Nat → Int32) => [zM am f, zA (kk 1) (am 1) 252 u])) (va_A [zM am f, zA (kk 1) (am 1) 252 st] sz)) 0 0 (va_A [zM am f, zA (kk 1) (am 1) 252 st] sz) := by
  refine zMet (Qc := fun A => va_Qi (fun (r : Int32) (u : (Nat → Int32)) => Q r u) (zB D A (fun u : (Nat → Int32) => [zM am f, zA (kk 1) (am 1) 252 u])) A) (by decide) (Nat.le_of_ble_eq_true rfl) ?_
  intro p e s m below meth c A X hP hD hS ls hl
  obtain ⟨hx, hb, hr, hml, hown, hts, hlk, hnm, hK, hN, hA⟩ := X
  have hown : s.vm.findClass "LoseLeagueModel" = some m.cls := hown
  have hl : lv_has ls 5 [(0, .ref (am 0)), (1, .int p1), (2, .int p2), (3, .int p3), (4, .int p4)] := hl
  unfold wpX7_lendsOn at h
  refine lv_aload_n hx hb dX7_lendsOn_0 rfl (lv_at hl 0 rfl) ?_
  refine va_get (D := D) (ci := 7) (v := .ref (am 1)) (C := RX7) (T := TX7) (N := 29) hx hb hts in_X7 hown hK hP 0 rfl rfl 0 (Nat.le_of_ble_eq_true rfl) (hts _ q939) (fun _ h9 => h9) rfl dX7_lendsOn_1 ?_
  refine lv_iload_n hx hb dX7_lendsOn_4 rfl (lv_at hl 1 rfl) ?_
  refine lv_iconst (v := (5 : Int32)) hx hb dX7_lendsOn_5 (by decide) ?_
  refine lv_iadd hx hb dX7_lendsOn_6 ?_
  refine lv_iload_n hx hb dX7_lendsOn_7 rfl (lv_at hl 2 rfl) ?_
  refine lv_iadd hx hb dX7_lendsOn_8 ?_
  obtain ⟨hin, h⟩ := h
  refine va_iald hx hb hK hP 1 1 rfl rfl hin dX7_lendsOn_9 ?_
  refine lv_iload hx hb dX7_lendsOn_10 (lv_at hl 4 rfl) ?_
  refine lv_icmp_ge (tgt := 18) hx hb dX7_lendsOn_12 (by decide) (fun c_1 => ?_) (fun c_1 => ?_)
  · have h := h.1 c_1
    refine lv_aload_n hx hb dX7_lendsOn_18 rfl (lv_at hl 0 rfl) ?_
    refine va_get (D := D) (ci := 7) (v := .ref (am 1)) (C := RX7) (T := TX7) (N := 29) hx hb hts in_X7 hown hK hP 0 rfl rfl 0 (Nat.le_of_ble_eq_true rfl) (hts _ q939) (fun _ h9 => h9) rfl dX7_lendsOn_19 ?_
    refine lv_iload_n hx hb dX7_lendsOn_22 rfl (lv_at hl 1 rfl) ?_
    refine lv_iconst (v := (5 : Int32)) hx hb dX7_lendsOn_23 (by decide) ?_
    refine lv_iadd hx hb dX7_lendsOn_24 ?_
    refine lv_iload_n hx hb dX7_lendsOn_25 rfl (lv_at hl 3 rfl) ?_
    refine lv_iadd hx hb dX7_lendsOn_26 ?_
    obtain ⟨hin, h⟩ := h
    refine va_iald hx hb hK hP 1 1 rfl rfl hin dX7_lendsOn_27 ?_
    refine lv_iload hx hb dX7_lendsOn_28 (lv_at hl 4 rfl) ?_
    refine lv_iadd hx hb dX7_lendsOn_30 ?_
    refine lv_bipush (v := (20 : Int32)) hx hb dX7_lendsOn_31 (by decide) ?_
    refine lv_icmp_le (tgt := 39) hx hb dX7_lendsOn_33 (by decide) (fun c_2 => ?_) (fun c_2 => ?_)
    · have h := h.1 c_2
      refine lv_aload_n hx hb dX7_lendsOn_39 rfl (lv_at hl 0 rfl) ?_
      refine va_get (D := D) (ci := 7) (v := .ref (am 1)) (C := RX7) (T := TX7) (N := 29) hx hb hts in_X7 hown hK hP 0 rfl rfl 0 (Nat.le_of_ble_eq_true rfl) (hts _ q939) (fun _ h9 => h9) rfl dX7_lendsOn_40 ?_
      refine lv_iload_n hx hb dX7_lendsOn_43 rfl (lv_at hl 1 rfl) ?_
      refine lv_iconst (v := (5 : Int32)) hx hb dX7_lendsOn_44 (by decide) ?_
      refine lv_iadd hx hb dX7_lendsOn_45 ?_
      refine lv_iload_n hx hb dX7_lendsOn_46 rfl (lv_at hl 2 rfl) ?_
      refine lv_iadd hx hb dX7_lendsOn_47 ?_
      refine lv_dup2_11 hx hb dX7_lendsOn_48 rfl rfl ?_
      obtain ⟨hin, h⟩ := h
      refine va_iald hx hb hK hP 1 1 rfl rfl hin dX7_lendsOn_49 ?_
      refine lv_iload hx hb dX7_lendsOn_50 (lv_at hl 4 rfl) ?_
      refine lv_isub hx hb dX7_lendsOn_52 ?_
      refine lv_topi (fun v_3 ev_3 => ?_)
      have h := h v_3 ev_3
      obtain ⟨hin, h⟩ := h
      refine va_iast hx hb hK hP hD hS 1 1 rfl rfl hin dX7_lendsOn_53 (fun H locs hP hD hS => ?_)
      have hP : va_P D vwCl [zM am f, zA (kk 1) (am 1) 252 (upd st ((p1 + (5 : Int32)) + p2).toNatClampNeg v_3)] H := hP
      have hD : va_D A [zM am f, zA (kk 1) (am 1) 252 (upd st ((p1 + (5 : Int32)) + p2).toNatClampNeg v_3)] := hD
      refine lv_aload_n hx hb dX7_lendsOn_54 rfl (lv_at hl 0 rfl) ?_
      refine va_get (D := D) (ci := 7) (v := .ref (am 1)) (C := RX7) (T := TX7) (N := 29) hx hb hts in_X7 hown hK hP 0 rfl rfl 0 (Nat.le_of_ble_eq_true rfl) (hts _ q939) (fun _ h9 => h9) rfl dX7_lendsOn_55 ?_
      refine lv_iload_n hx hb dX7_lendsOn_58 rfl (lv_at hl 1 rfl) ?_
      refine lv_iconst (v := (5 : Int32)) hx hb dX7_lendsOn_59 (by decide) ?_
      refine lv_iadd hx hb dX7_lendsOn_60 ?_
      refine lv_iload_n hx hb dX7_lendsOn_61 rfl (lv_at hl 3 rfl) ?_
      refine lv_iadd hx hb dX7_lendsOn_62 ?_
      refine lv_dup2_11 hx hb dX7_lendsOn_63 rfl rfl ?_
      obtain ⟨hin, h⟩ := h
      refine va_iald hx hb hK hP 1 1 rfl rfl hin dX7_lendsOn_64 ?_
      refine lv_iload hx hb dX7_lendsOn_65 (lv_at hl 4 rfl) ?_
      refine lv_iadd hx hb dX7_lendsOn_67 ?_
      refine lv_topi (fun v_4 ev_4 => ?_)
      have h := h v_4 ev_4
      obtain ⟨hin, h⟩ := h
      refine va_iast hx hb hK hP hD hS 1 1 rfl rfl hin dX7_lendsOn_68 (fun H locs hP hD hS => ?_)
      have hP : va_P D vwCl [zM am f, zA (kk 1) (am 1) 252 (upd (upd st ((p1 + (5 : Int32)) + p2).toNatClampNeg v_3) ((p1 + (5 : Int32)) + p3).toNatClampNeg v_4)] H := hP
      have hD : va_D A [zM am f, zA (kk 1) (am 1) 252 (upd (upd st ((p1 + (5 : Int32)) + p2).toNatClampNeg v_3) ((p1 + (5 : Int32)) + p3).toNatClampNeg v_4)] := hD
      refine lv_aload_n hx hb dX7_lendsOn_69 rfl (lv_at hl 0 rfl) ?_
      refine va_get (D := D) (ci := 7) (v := .ref (am 1)) (C := RX7) (T := TX7) (N := 29) hx hb hts in_X7 hown hK hP 0 rfl rfl 0 (Nat.le_of_ble_eq_true rfl) (hts _ q939) (fun _ h9 => h9) rfl dX7_lendsOn_70 ?_
      refine lv_iload_n hx hb dX7_lendsOn_73 rfl (lv_at hl 1 rfl) ?_
      refine lv_iconst (v := (5 : Int32)) hx hb dX7_lendsOn_74 (by decide) ?_
      refine lv_iadd hx hb dX7_lendsOn_75 ?_
      refine lv_iload_n hx hb dX7_lendsOn_76 rfl (lv_at hl 2 rfl) ?_
      refine lv_iadd hx hb dX7_lendsOn_77 ?_
      obtain ⟨hin, h⟩ := h
      refine va_iald hx hb hK hP 1 1 rfl rfl hin dX7_lendsOn_78 ?_
      exact zr_i hx hb hr hlk rfl hP hD hS ((upd (upd st ((p1 + (5 : Int32)) + p2).toNatClampNeg v_3) ((p1 + (5 : Int32)) + p3).toNatClampNeg v_4)) [0, 1] rfl (by decide) dX7_lendsOn_79 h
    · have h := h.2 c_2
      refine lv_bipush (v := (-3 : Int32)) hx hb dX7_lendsOn_36 (by decide) ?_
      exact zr_i hx hb hr hlk rfl hP hD hS (st) [0, 1] rfl (by decide) dX7_lendsOn_38 h
  · have h := h.2 c_1
    refine lv_bipush (v := (-2 : Int32)) hx hb dX7_lendsOn_15 (by decide) ?_
    exact zr_i hx hb hr hlk rfl hP hD hS (st) [0, 1] rfl (by decide) dX7_lendsOn_17 h
def wpX7_lend (f : Nat → Int32) (st : Nat → Int32) (p1 : Int32) (p2 : Int32) (p3 : Int32) (Q : Int32 → (Nat → Int32) → Prop) : Prop :=
  (wpX7_isPair f p1 p2 (fun r_1 => ((r_1 = 0 → Q (-1 : Int32) st) ∧ (¬ r_1 = 0 → (wpX7_in (p3.toInt64) (0 : Int64) (20 : Int64) (fun r_3 => ((r_3 = 0 → Q (-1 : Int32) st) ∧ (¬ r_3 = 0 → (wpX7_lendsOn st (0 : Int32) p1 p2 p3 (fun r_5 st_6 => Q r_5 st_6))))))))))
set_option maxHeartbeats 4000000 in
theorem metX7_lend (l : Launch) (D : va_G) (kk : Nat → ClassId) (am : Nat → Nat) (sz : Nat) (f : Nat → Int32) (st : Nat → Int32) (p1 : Int32) (p2 : Int32) (p3 : Int32) (Q : Int32 → (Nat → Int32) → Prop) (h : wpX7_lend f st p1 p2 p3 Q) : Met l yX7_lend (ws_ yX7_lend cX7_lend 4 (some .int)) { frames := 3, cells := 0, slots := 0, locals := 68 } (va_Pc ([.ref (am 0), .int p1, .int p2, .int p3] : List Value) (zPc D kk [zM am f, zA (kk 1) (am 1) 252 st] sz)) (va_Qi (fun (r : Int32) (u : (Nat → Int32)) => Q r u) (zB D (va_A [zM am f, zA (kk 1) (am 1) 252 st] sz) (fun u : (Nat → Int32) => [zM am f, zA (kk 1) (am 1) 252 u])) (va_A [zM am f, zA (kk 1) (am 1) 252 st] sz)) 0 0 (va_A [zM am f, zA (kk 1) (am 1) 252 st] sz) := by
  refine zMet (Qc := fun A => va_Qi (fun (r : Int32) (u : (Nat → Int32)) => Q r u) (zB D A (fun u : (Nat → Int32) => [zM am f, zA (kk 1) (am 1) 252 u])) A) (by decide) (Nat.le_of_ble_eq_true rfl) ?_
  intro p e s m below meth c A X hP hD hS ls hl
  obtain ⟨hx, hb, hr, hml, hown, hts, hlk, hnm, hK, hN, hA⟩ := X
  have hown : s.vm.findClass "LoseLeagueModel" = some m.cls := hown
  have hl : lv_has ls 4 [(0, .ref (am 0)), (1, .int p1), (2, .int p2), (3, .int p3)] := hl
  unfold wpX7_lend at h
  refine lv_aload_n hx hb dX7_lend_0 rfl (lv_at hl 0 rfl) ?_
  refine lv_iload_n hx hb dX7_lend_1 rfl (lv_at hl 1 rfl) ?_
  refine lv_iload_n hx hb dX7_lend_2 rfl (lv_at hl 2 rfl) ?_
  have hrc := va_recv hK hP (ci := 7) (q0 := 0) rfl rfl
  refine zc_i (wc := [zM am f]) (wr := [zA (kk 1) (am 1) 252 st]) (w1 := (fun u : Unit => [zM am f])) (rest := []) [0] [1] rfl rfl (by decide) (by decide) (by decide) hA hP hD hS (fun hP hD => va_runV (As := [.int p1, .int p2]) (rest := []) ⟨hx, hb, hml, hown, hts⟩ (metX7_isPair l D kk am _ f p1 p2 _ h) (cwV 2 hts (lw_V q1125 q1127 qs48 q71 q1128) rfl rfl rfl pdX7_isPair ⟨(Nat.le_of_ble_eq_true rfl), (Nat.le_of_ble_eq_true rfl)⟩) (zp_V hK hN hrc hP hD) rfl rfl hl.1 rfl (lv_room (Nat.le_of_ble_eq_true rfl)) dX7_lend_3 ⟨(Nat.le_of_ble_eq_true rfl), (Nat.le_of_ble_eq_true rfl)⟩) (fun r_1 u H locs h hP hD hS => ?_)
  try dsimp only at h
  have hP : va_P D vwCl [zA (kk 1) (am 1) 252 st, zM am f] H := hP
  have hD : va_D A [zA (kk 1) (am 1) 252 st, zM am f] := hD
  refine lv_if_eq (tgt := 32) hx hb dX7_lend_6 (by decide) (fun c_2 => ?_) (fun c_2 => ?_)
  · have h := h.1 c_2
    refine lv_iconst (v := (-1 : Int32)) hx hb dX7_lend_32 (by decide) ?_
    exact zr_i hx hb hr hlk rfl hP hD hS (st) [1, 0] rfl (by decide) dX7_lend_33 h
  · have h := h.2 c_2
    refine lv_iload_n hx hb dX7_lend_9 rfl (lv_at hl 3 rfl) ?_
    refine lv_i2l hx hb dX7_lend_10 rfl ?_
    refine lv_lconst (v := (0 : Int64)) hx hb dX7_lend_11 (by decide) ?_
    refine lv_ldc2 (v := (20 : Int64)) hx hb hown (hts _ q1146) dX7_lend_12 ?_
    refine zc_i (wc := []) (wr := [zA (kk 1) (am 1) 252 st, zM am f]) (w1 := (fun u : Unit => [])) (rest := []) [] [0, 1] rfl rfl (by decide) (by decide) (by decide) hA hP hD hS (fun hP hD => va_runS (As := [.long (p3.toInt64), .long (0 : Int64), .long (20 : Int64)]) (rest := []) ⟨hx, hb, hml, hown, hts⟩ (metX7_in l D kk _ (p3.toInt64) (0 : Int64) (20 : Int64) _ h) (va_cwS 3 hts (lw_S q1033 q1034 q71 q1035) rfl rfl rfl pdX7_in.2 ⟨(Nat.le_of_ble_eq_true rfl), (Nat.le_of_ble_eq_true rfl)⟩) (zp_S hK hN hP hD) rfl rfl hl.1 rfl (lv_room (Nat.le_of_ble_eq_true rfl)) dX7_lend_15 ⟨(Nat.le_of_ble_eq_true rfl), (Nat.le_of_ble_eq_true rfl)⟩) (fun r_3 u H locs h hP hD hS => ?_)
    try dsimp only at h
    have hP : va_P D vwCl [zA (kk 1) (am 1) 252 st, zM am f] H := hP
    have hD : va_D A [zA (kk 1) (am 1) 252 st, zM am f] := hD
    refine lv_if_eq (tgt := 32) hx hb dX7_lend_18 (by decide) (fun c_4 => ?_) (fun c_4 => ?_)
    · have h := h.1 c_4
      refine lv_iconst (v := (-1 : Int32)) hx hb dX7_lend_32 (by decide) ?_
      exact zr_i hx hb hr hlk rfl hP hD hS (st) [1, 0] rfl (by decide) dX7_lend_33 h
    · have h := h.2 c_4
      refine lv_aload_n hx hb dX7_lend_21 rfl (lv_at hl 0 rfl) ?_
      refine lv_iconst (v := (0 : Int32)) hx hb dX7_lend_22 (by decide) ?_
      refine lv_iload_n hx hb dX7_lend_23 rfl (lv_at hl 1 rfl) ?_
      refine lv_iload_n hx hb dX7_lend_24 rfl (lv_at hl 2 rfl) ?_
      refine lv_iload_n hx hb dX7_lend_25 rfl (lv_at hl 3 rfl) ?_
      have hrc := va_recv hK hP (ci := 7) (q0 := 1) rfl rfl
      refine zc_i (wc := [zM am f, zA (kk 1) (am 1) 252 st]) (wr := []) (w1 := (fun u : (Nat → Int32) => [zM am f, zA (kk 1) (am 1) 252 u])) (rest := []) [1, 0] [] rfl rfl (by decide) (by decide) (by decide) hA hP hD hS (fun hP hD => va_runV (As := [.int (0 : Int32), .int p1, .int p2, .int p3]) (rest := []) ⟨hx, hb, hml, hown, hts⟩ (metX7_lendsOn l D kk am _ f st (0 : Int32) p1 p2 p3 _ h) (cwV 4 hts (lw_V q1147 q1149 qs51 q71 q1150) rfl rfl rfl pdX7_lendsOn ⟨(Nat.le_of_ble_eq_true rfl), (Nat.le_of_ble_eq_true rfl)⟩) (zp_V hK hN hrc hP hD) rfl rfl hl.1 rfl (lv_room (Nat.le_of_ble_eq_true rfl)) dX7_lend_26 ⟨(Nat.le_of_ble_eq_true rfl), (Nat.le_of_ble_eq_true rfl)⟩) (fun r_5 u H locs h hP hD hS => ?_)
      obtain ⟨st_6, rfl⟩ : ∃ z, z = u := ⟨_, rfl⟩
      try dsimp only at h
      have hP : va_P D vwCl [zM am f, zA (kk 1) (am 1) 252 st_6] H := hP
      have hD : va_D A [zM am f, zA (kk 1) (am 1) 252 st_6] := hD
      refine lv_goto (tgt := 33) hx hb dX7_lend_29 (by decide) ?_
      exact zr_i hx hb hr hlk rfl hP hD hS (st_6) [0, 1] rfl (by decide) dX7_lend_33 h
def wpX7_books (f : Nat → Int32) (st : Nat → Int32) (p1 : Int32) (p2 : Int32) (Q : Int32 → (Nat → Int32) → Prop) : Prop :=
  (wpX7_isPair f p1 p2 (fun r_1 => ((r_1 = 0 → Q (-1 : Int32) st) ∧ (¬ r_1 = 0 → (∀ x3_3 : Int32, x3_3 = (st (40 : Int32).toNatClampNeg) → ((x3_3 = (10 : Int32) → Q (-3 : Int32) st) ∧ (¬ x3_3 = (10 : Int32) → (vp_in ((20 : Int32) + x3_3) 252 ∧ (vp_in ((30 : Int32) + x3_3) 252 ∧ (∀ v_5 : Int32, v_5 = (((upd (upd st ((20 : Int32) + x3_3).toNatClampNeg p1) ((30 : Int32) + x3_3).toNatClampNeg p2) (40 : Int32).toNatClampNeg) + (1 : Int32)) → Q ((upd (upd (upd st ((20 : Int32) + x3_3).toNatClampNeg p1) ((30 : Int32) + x3_3).toNatClampNeg p2) (40 : Int32).toNatClampNeg v_5) (40 : Int32).toNatClampNeg) (upd (upd (upd st ((20 : Int32) + x3_3).toNatClampNeg p1) ((30 : Int32) + x3_3).toNatClampNeg p2) (40 : Int32).toNatClampNeg v_5)))))))))))
set_option maxHeartbeats 4000000 in
theorem metX7_books (l : Launch) (D : va_G) (kk : Nat → ClassId) (am : Nat → Nat) (sz : Nat) (f : Nat → Int32) (st : Nat → Int32) (p1 : Int32) (p2 : Int32) (Q : Int32 → (Nat → Int32) → Prop) (h : wpX7_books f st p1 p2 Q) : Met l yX7_books (ws_ yX7_books cX7_books 4 (some .int)) { frames := 3, cells := 0, slots := 0, locals := 68 } (va_Pc ([.ref (am 0), .int p1, .int p2] : List Value) (zPc D kk [zM am f, zA (kk 1) (am 1) 252 st] sz)) (va_Qi (fun (r : Int32) (u : (Nat → Int32)) => Q r u) (zB D (va_A [zM am f, zA (kk 1) (am 1) 252 st] sz) (fun u : (Nat → Int32) => [zM am f, zA (kk 1) (am 1) 252 u])) (va_A [zM am f, zA (kk 1) (am 1) 252 st] sz)) 0 0 (va_A [zM am f, zA (kk 1) (am 1) 252 st] sz) := by
  refine zMet (Qc := fun A => va_Qi (fun (r : Int32) (u : (Nat → Int32)) => Q r u) (zB D A (fun u : (Nat → Int32) => [zM am f, zA (kk 1) (am 1) 252 u])) A) (by decide) (Nat.le_of_ble_eq_true rfl) ?_
  intro p e s m below meth c A X hP hD hS ls hl
  obtain ⟨hx, hb, hr, hml, hown, hts, hlk, hnm, hK, hN, hA⟩ := X
  have hown : s.vm.findClass "LoseLeagueModel" = some m.cls := hown
  have hl : lv_has ls 4 [(0, .ref (am 0)), (1, .int p1), (2, .int p2)] := hl
  unfold wpX7_books at h
  refine lv_aload_n hx hb dX7_books_0 rfl (lv_at hl 0 rfl) ?_
  refine lv_iload_n hx hb dX7_books_1 rfl (lv_at hl 1 rfl) ?_
  refine lv_iload_n hx hb dX7_books_2 rfl (lv_at hl 2 rfl) ?_
  have hrc := va_recv hK hP (ci := 7) (q0 := 0) rfl rfl
  refine zc_i (wc := [zM am f]) (wr := [zA (kk 1) (am 1) 252 st]) (w1 := (fun u : Unit => [zM am f])) (rest := []) [0] [1] rfl rfl (by decide) (by decide) (by decide) hA hP hD hS (fun hP hD => va_runV (As := [.int p1, .int p2]) (rest := []) ⟨hx, hb, hml, hown, hts⟩ (metX7_isPair l D kk am _ f p1 p2 _ h) (cwV 2 hts (lw_V q1125 q1127 qs48 q71 q1128) rfl rfl rfl pdX7_isPair ⟨(Nat.le_of_ble_eq_true rfl), (Nat.le_of_ble_eq_true rfl)⟩) (zp_V hK hN hrc hP hD) rfl rfl hl.1 rfl (lv_room (Nat.le_of_ble_eq_true rfl)) dX7_books_3 ⟨(Nat.le_of_ble_eq_true rfl), (Nat.le_of_ble_eq_true rfl)⟩) (fun r_1 u H locs h hP hD hS => ?_)
  try dsimp only at h
  have hP : va_P D vwCl [zA (kk 1) (am 1) 252 st, zM am f] H := hP
  have hD : va_D A [zA (kk 1) (am 1) 252 st, zM am f] := hD
  refine lv_if_ne (tgt := 11) hx hb dX7_books_6 (by decide) (fun c_2 => ?_) (fun c_2 => ?_)
  · have h := h.2 c_2
    refine lv_aload_n hx hb dX7_books_11 rfl (lv_at hl 0 rfl) ?_
    refine va_get (D := D) (ci := 7) (v := .ref (am 1)) (C := RX7) (T := TX7) (N := 29) hx hb hts in_X7 hown hK hP 1 rfl rfl 0 (Nat.le_of_ble_eq_true rfl) (hts _ q939) (fun _ h9 => h9) rfl dX7_books_12 ?_
    refine lv_bipush (v := (40 : Int32)) hx hb dX7_books_15 (by decide) ?_
    refine va_iald hx hb hK hP 0 1 rfl rfl (by unfold vp_in; decide) dX7_books_17 ?_
    refine lv_topi (fun x3_3 ex3_3 => ?_)
    have h := h x3_3 ex3_3
    refine lv_istore_n (lv' := [(3, .int x3_3), (0, .ref (am 0)), (1, .int p1), (2, .int p2)]) hx hb dX7_books_18 rfl hl (by decide) rfl (fun ls hl => ?_)
    refine lv_iload_n hx hb dX7_books_19 rfl (lv_at hl 0 rfl) ?_
    refine lv_bipush (v := (10 : Int32)) hx hb dX7_books_20 (by decide) ?_
    refine lv_icmp_ne (tgt := 28) hx hb dX7_books_22 (by decide) (fun c_4 => ?_) (fun c_4 => ?_)
    · have h := h.2 c_4
      refine lv_aload_n hx hb dX7_books_28 rfl (lv_at hl 1 rfl) ?_
      refine va_get (D := D) (ci := 7) (v := .ref (am 1)) (C := RX7) (T := TX7) (N := 29) hx hb hts in_X7 hown hK hP 1 rfl rfl 0 (Nat.le_of_ble_eq_true rfl) (hts _ q939) (fun _ h9 => h9) rfl dX7_books_29 ?_
      refine lv_bipush (v := (20 : Int32)) hx hb dX7_books_32 (by decide) ?_
      refine lv_iload_n hx hb dX7_books_34 rfl (lv_at hl 0 rfl) ?_
      refine lv_iadd hx hb dX7_books_35 ?_
      refine lv_iload_n hx hb dX7_books_36 rfl (lv_at hl 2 rfl) ?_
      obtain ⟨hin, h⟩ := h
      refine va_iast hx hb hK hP hD hS 0 1 rfl rfl hin dX7_books_37 (fun H locs hP hD hS => ?_)
      have hP : va_P D vwCl [zA (kk 1) (am 1) 252 (upd st ((20 : Int32) + x3_3).toNatClampNeg p1), zM am f] H := hP
      have hD : va_D A [zA (kk 1) (am 1) 252 (upd st ((20 : Int32) + x3_3).toNatClampNeg p1), zM am f] := hD
      refine lv_aload_n hx hb dX7_books_38 rfl (lv_at hl 1 rfl) ?_
      refine va_get (D := D) (ci := 7) (v := .ref (am 1)) (C := RX7) (T := TX7) (N := 29) hx hb hts in_X7 hown hK hP 1 rfl rfl 0 (Nat.le_of_ble_eq_true rfl) (hts _ q939) (fun _ h9 => h9) rfl dX7_books_39 ?_
      refine lv_bipush (v := (30 : Int32)) hx hb dX7_books_42 (by decide) ?_
      refine lv_iload_n hx hb dX7_books_44 rfl (lv_at hl 0 rfl) ?_
      refine lv_iadd hx hb dX7_books_45 ?_
      refine lv_iload_n hx hb dX7_books_46 rfl (lv_at hl 3 rfl) ?_
      obtain ⟨hin, h⟩ := h
      refine va_iast hx hb hK hP hD hS 0 1 rfl rfl hin dX7_books_47 (fun H locs hP hD hS => ?_)
      have hP : va_P D vwCl [zA (kk 1) (am 1) 252 (upd (upd st ((20 : Int32) + x3_3).toNatClampNeg p1) ((30 : Int32) + x3_3).toNatClampNeg p2), zM am f] H := hP
      have hD : va_D A [zA (kk 1) (am 1) 252 (upd (upd st ((20 : Int32) + x3_3).toNatClampNeg p1) ((30 : Int32) + x3_3).toNatClampNeg p2), zM am f] := hD
      refine lv_aload_n hx hb dX7_books_48 rfl (lv_at hl 1 rfl) ?_
      refine va_get (D := D) (ci := 7) (v := .ref (am 1)) (C := RX7) (T := TX7) (N := 29) hx hb hts in_X7 hown hK hP 1 rfl rfl 0 (Nat.le_of_ble_eq_true rfl) (hts _ q939) (fun _ h9 => h9) rfl dX7_books_49 ?_
      refine lv_bipush (v := (40 : Int32)) hx hb dX7_books_52 (by decide) ?_
      refine lv_dup2_11 hx hb dX7_books_54 rfl rfl ?_
      refine va_iald hx hb hK hP 0 1 rfl rfl (by unfold vp_in; decide) dX7_books_55 ?_
      refine lv_iconst (v := (1 : Int32)) hx hb dX7_books_56 (by decide) ?_
      refine lv_iadd hx hb dX7_books_57 ?_
      refine lv_topi (fun v_5 ev_5 => ?_)
      have h := h v_5 ev_5
      refine va_iast hx hb hK hP hD hS 0 1 rfl rfl (by unfold vp_in; decide) dX7_books_58 (fun H locs hP hD hS => ?_)
      have hP : va_P D vwCl [zA (kk 1) (am 1) 252 (upd (upd (upd st ((20 : Int32) + x3_3).toNatClampNeg p1) ((30 : Int32) + x3_3).toNatClampNeg p2) (40 : Int32).toNatClampNeg v_5), zM am f] H := hP
      have hD : va_D A [zA (kk 1) (am 1) 252 (upd (upd (upd st ((20 : Int32) + x3_3).toNatClampNeg p1) ((30 : Int32) + x3_3).toNatClampNeg p2) (40 : Int32).toNatClampNeg v_5), zM am f] := hD
      refine lv_aload_n hx hb dX7_books_59 rfl (lv_at hl 1 rfl) ?_
      refine va_get (D := D) (ci := 7) (v := .ref (am 1)) (C := RX7) (T := TX7) (N := 29) hx hb hts in_X7 hown hK hP 1 rfl rfl 0 (Nat.le_of_ble_eq_true rfl) (hts _ q939) (fun _ h9 => h9) rfl dX7_books_60 ?_
      refine lv_bipush (v := (40 : Int32)) hx hb dX7_books_63 (by decide) ?_
      refine va_iald hx hb hK hP 0 1 rfl rfl (by unfold vp_in; decide) dX7_books_65 ?_
      exact zr_i hx hb hr hlk rfl hP hD hS ((upd (upd (upd st ((20 : Int32) + x3_3).toNatClampNeg p1) ((30 : Int32) + x3_3).toNatClampNeg p2) (40 : Int32).toNatClampNeg v_5)) [1, 0] rfl (by decide) dX7_books_66 h
    · have h := h.1 c_4
      refine lv_bipush (v := (-3 : Int32)) hx hb dX7_books_25 (by decide) ?_
      exact zr_i hx hb hr hlk rfl hP hD hS (st) [1, 0] rfl (by decide) dX7_books_27 h
  · have h := h.1 c_2
    refine lv_iconst (v := (-1 : Int32)) hx hb dX7_books_9 (by decide) ?_
    exact zr_i hx hb hr hlk rfl hP hD hS (st) [1, 0] rfl (by decide) dX7_books_10 h
def wpX7_book (f : Nat → Int32) (st : Nat → Int32) (p1 : Int32) (p2 : Int32) (Q : Int32 → (Nat → Int32) → Prop) : Prop :=
  (wpX7_books f st p1 p2 (fun r_1 st_2 => Q r_1 st_2))
set_option maxHeartbeats 4000000 in
theorem metX7_book (l : Launch) (D : va_G) (kk : Nat → ClassId) (am : Nat → Nat) (sz : Nat) (f : Nat → Int32) (st : Nat → Int32) (p1 : Int32) (p2 : Int32) (Q : Int32 → (Nat → Int32) → Prop) (h : wpX7_book f st p1 p2 Q) : Met l yX7_book (ws_ yX7_book cX7_book 3 (some .int)) { frames := 4, cells := 0, slots := 0, locals := 91 } (va_Pc ([.ref (am 0), .int p1, .int p2] : List Value) (zPc D kk [zM am f, zA (kk 1) (am 1) 252 st] sz)) (va_Qi (fun (r : Int32) (u : (Nat → Int32)) => Q r u) (zB D (va_A [zM am f, zA (kk 1) (am 1) 252 st] sz) (fun u : (Nat → Int32) => [zM am f, zA (kk 1) (am 1) 252 u])) (va_A [zM am f, zA (kk 1) (am 1) 252 st] sz)) 0 0 (va_A [zM am f, zA (kk 1) (am 1) 252 st] sz) := by
  refine zMet (Qc := fun A => va_Qi (fun (r : Int32) (u : (Nat → Int32)) => Q r u) (zB D A (fun u : (Nat → Int32) => [zM am f, zA (kk 1) (am 1) 252 u])) A) (by decide) (Nat.le_of_ble_eq_true rfl) ?_
  intro p e s m below meth c A X hP hD hS ls hl
  obtain ⟨hx, hb, hr, hml, hown, hts, hlk, hnm, hK, hN, hA⟩ := X
  have hown : s.vm.findClass "LoseLeagueModel" = some m.cls := hown
  have hl : lv_has ls 3 [(0, .ref (am 0)), (1, .int p1), (2, .int p2)] := hl
  unfold wpX7_book at h
  refine lv_aload_n hx hb dX7_book_0 rfl (lv_at hl 0 rfl) ?_
  refine lv_iload_n hx hb dX7_book_1 rfl (lv_at hl 1 rfl) ?_
  refine lv_iload_n hx hb dX7_book_2 rfl (lv_at hl 2 rfl) ?_
  have hrc := va_recv hK hP (ci := 7) (q0 := 0) rfl rfl
  refine zc_i (wc := [zM am f, zA (kk 1) (am 1) 252 st]) (wr := []) (w1 := (fun u : (Nat → Int32) => [zM am f, zA (kk 1) (am 1) 252 u])) (rest := []) [0, 1] [] rfl rfl (by decide) (by decide) (by decide) hA hP hD hS (fun hP hD => va_runV (As := [.int p1, .int p2]) (rest := []) ⟨hx, hb, hml, hown, hts⟩ (metX7_books l D kk am _ f st p1 p2 _ h) (cwV 2 hts (lw_V q1155 q1157 qs52 q71 q1158) rfl rfl rfl pdX7_books ⟨(Nat.le_of_ble_eq_true rfl), (Nat.le_of_ble_eq_true rfl)⟩) (zp_V hK hN hrc hP hD) rfl rfl hl.1 rfl (lv_room (Nat.le_of_ble_eq_true rfl)) dX7_book_3 ⟨(Nat.le_of_ble_eq_true rfl), (Nat.le_of_ble_eq_true rfl)⟩) (fun r_1 u H locs h hP hD hS => ?_)
  obtain ⟨st_2, rfl⟩ : ∃ z, z = u := ⟨_, rfl⟩
  try dsimp only at h
  have hP : va_P D vwCl [zM am f, zA (kk 1) (am 1) 252 st_2] H := hP
  have hD : va_D A [zM am f, zA (kk 1) (am 1) 252 st_2] := hD
  exact zr_i hx hb hr hlk rfl hP hD hS (st_2) [0, 1] rfl (by decide) dX7_book_6 h
def wpX7_strike (st : Nat → Int32) (p1 : Int32) (Q : Int32 → (Nat → Int32) → Prop) : Prop :=
  (wpX7_in (p1.toInt64) (0 : Int64) ((st (40 : Int32).toNatClampNeg).toInt64) (fun r_1 => (wpX7_puts st r_1 (40 : Int32) p1 (fun r_2 st_3 => Q r_2 st_3))))
set_option maxHeartbeats 4000000 in
theorem metX7_strike (l : Launch) (D : va_G) (kk : Nat → ClassId) (am : Nat → Nat) (sz : Nat) (f : Nat → Int32) (st : Nat → Int32) (p1 : Int32) (Q : Int32 → (Nat → Int32) → Prop) (h : wpX7_strike st p1 Q) : Met l yX7_strike (ws_ yX7_strike cX7_strike 2 (some .int)) { frames := 1, cells := 0, slots := 0, locals := 25 } (va_Pc ([.ref (am 0), .int p1] : List Value) (zPc D kk [zM am f, zA (kk 1) (am 1) 252 st] sz)) (va_Qi (fun (r : Int32) (u : (Nat → Int32)) => Q r u) (zB D (va_A [zM am f, zA (kk 1) (am 1) 252 st] sz) (fun u : (Nat → Int32) => [zM am f, zA (kk 1) (am 1) 252 u])) (va_A [zM am f, zA (kk 1) (am 1) 252 st] sz)) 0 0 (va_A [zM am f, zA (kk 1) (am 1) 252 st] sz) := by
  refine zMet (Qc := fun A => va_Qi (fun (r : Int32) (u : (Nat → Int32)) => Q r u) (zB D A (fun u : (Nat → Int32) => [zM am f, zA (kk 1) (am 1) 252 u])) A) (by decide) (Nat.le_of_ble_eq_true rfl) ?_
  intro p e s m below meth c A X hP hD hS ls hl
  obtain ⟨hx, hb, hr, hml, hown, hts, hlk, hnm, hK, hN, hA⟩ := X
  have hown : s.vm.findClass "LoseLeagueModel" = some m.cls := hown
  have hl : lv_has ls 2 [(0, .ref (am 0)), (1, .int p1)] := hl
  unfold wpX7_strike at h
  refine lv_aload_n hx hb dX7_strike_0 rfl (lv_at hl 0 rfl) ?_
  refine lv_iload_n hx hb dX7_strike_1 rfl (lv_at hl 1 rfl) ?_
  refine lv_i2l hx hb dX7_strike_2 rfl ?_
  refine lv_lconst (v := (0 : Int64)) hx hb dX7_strike_3 (by decide) ?_
  refine lv_aload_n hx hb dX7_strike_4 rfl (lv_at hl 0 rfl) ?_
  refine va_get (D := D) (ci := 7) (v := .ref (am 1)) (C := RX7) (T := TX7) (N := 29) hx hb hts in_X7 hown hK hP 0 rfl rfl 0 (Nat.le_of_ble_eq_true rfl) (hts _ q939) (fun _ h9 => h9) rfl dX7_strike_5 ?_
  refine lv_bipush (v := (40 : Int32)) hx hb dX7_strike_8 (by decide) ?_
  refine va_iald hx hb hK hP 1 1 rfl rfl (by unfold vp_in; decide) dX7_strike_10 ?_
  refine lv_i2l hx hb dX7_strike_11 rfl ?_
  refine zc_i (wc := []) (wr := [zM am f, zA (kk 1) (am 1) 252 st]) (w1 := (fun u : Unit => [])) (rest := [.ref (am 0)]) [] [0, 1] rfl rfl (by decide) (by decide) (by decide) hA hP hD hS (fun hP hD => va_runS (As := [.long (p1.toInt64), .long (0 : Int64), .long ((st (40 : Int32).toNatClampNeg).toInt64)]) (rest := [.ref (am 0)]) ⟨hx, hb, hml, hown, hts⟩ (metX7_in l D kk _ (p1.toInt64) (0 : Int64) ((st (40 : Int32).toNatClampNeg).toInt64) _ h) (va_cwS 3 hts (lw_S q1033 q1034 q71 q1035) rfl rfl rfl pdX7_in.2 ⟨(Nat.le_of_ble_eq_true rfl), (Nat.le_of_ble_eq_true rfl)⟩) (zp_S hK hN hP hD) rfl rfl hl.1 rfl (lv_room (Nat.le_of_ble_eq_true rfl)) dX7_strike_12 ⟨(Nat.le_of_ble_eq_true rfl), (Nat.le_of_ble_eq_true rfl)⟩) (fun r_1 u H locs h hP hD hS => ?_)
  try dsimp only at h
  have hP : va_P D vwCl [zM am f, zA (kk 1) (am 1) 252 st] H := hP
  have hD : va_D A [zM am f, zA (kk 1) (am 1) 252 st] := hD
  refine lv_bipush (v := (40 : Int32)) hx hb dX7_strike_15 (by decide) ?_
  refine lv_iload_n hx hb dX7_strike_17 rfl (lv_at hl 1 rfl) ?_
  have hrc := va_recv hK hP (ci := 7) (q0 := 0) rfl rfl
  refine zc_i (wc := [zM am f, zA (kk 1) (am 1) 252 st]) (wr := []) (w1 := (fun u : (Nat → Int32) => [zM am f, zA (kk 1) (am 1) 252 u])) (rest := []) [0, 1] [] rfl rfl (by decide) (by decide) (by decide) hA hP hD hS (fun hP hD => va_runV (As := [.int r_1, .int (40 : Int32), .int p1]) (rest := []) ⟨hx, hb, hml, hown, hts⟩ (metX7_puts l D kk am _ f st r_1 (40 : Int32) p1 _ h) (cwV 3 hts (lw_V q1138 q1140 qs50 q71 q1141) rfl rfl rfl pdX7_puts ⟨(Nat.le_of_ble_eq_true rfl), (Nat.le_of_ble_eq_true rfl)⟩) (zp_V hK hN hrc hP hD) rfl rfl hl.1 rfl (lv_room (Nat.le_of_ble_eq_true rfl)) dX7_strike_18 ⟨(Nat.le_of_ble_eq_true rfl), (Nat.le_of_ble_eq_true rfl)⟩) (fun r_2 u H locs h hP hD hS => ?_)
  obtain ⟨st_3, rfl⟩ : ∃ z, z = u := ⟨_, rfl⟩
  try dsimp only at h
  have hP : va_P D vwCl [zM am f, zA (kk 1) (am 1) 252 st_3] H := hP
  have hD : va_D A [zM am f, zA (kk 1) (am 1) 252 st_3] := hD
  exact zr_i hx hb hr hlk rfl hP hD hS (st_3) [0, 1] rfl (by decide) dX7_strike_21 h
def wbX7_weeks_39 (p1 : Int32) (Q : Int32 → (Nat → Int32) → (Nat → Int32) → Prop) (k39 : (Nat → Int32) → (Nat → Int32) → Int32 → Prop) (f : Nat → Int32) (st : Nat → Int32) (x2 : Int32) : Prop :=
  ((p1 ≤ x2 → Q (f 17) f st) ∧ (¬ p1 ≤ x2 → (wpX7_weekOn f st (0 : Int32) (0 : Int32) (fun f_6 st_7 => k39 f_6 st_7 (x2 + 1)))))
def wpX7_weeks_39 (p1 : Int32) (Q : Int32 → (Nat → Int32) → (Nat → Int32) → Prop) (n : Nat) : (Nat → Int32) → (Nat → Int32) → Int32 → Prop :=
  Nat.rec (motive := fun _ => (Nat → Int32) → (Nat → Int32) → Int32 → Prop) (fun _ _ _ => False) (fun _ k => wbX7_weeks_39 p1 Q  k) n
def wpX7_weeks (f : Nat → Int32) (st : Nat → Int32) (p1 : Int32) (Q : Int32 → (Nat → Int32) → (Nat → Int32) → Prop) : Prop :=
  (wpX7_in (p1.toInt64) (0 : Int64) (30 : Int64) (fun r_1 => ((r_1 = 0 → Q (-1 : Int32) f st) ∧ (¬ r_1 = 0 → ((((st (41 : Int32).toNatClampNeg) + p1) ≤ (999 : Int32) → (∃ n : Nat, wpX7_weeks_39 p1 Q  n (upd f 17 (0 : Int32)) st (0 : Int32))) ∧ (¬ ((st (41 : Int32).toNatClampNeg) + p1) ≤ (999 : Int32) → Q (-3 : Int32) f st))))))
set_option maxHeartbeats 4000000 in
theorem metX7_weeks (l : Launch) (D : va_G) (kk : Nat → ClassId) (am : Nat → Nat) (sz : Nat) (f : Nat → Int32) (st : Nat → Int32) (p1 : Int32) (Q : Int32 → (Nat → Int32) → (Nat → Int32) → Prop) (h : wpX7_weeks f st p1 Q) : Met l yX7_weeks (ws_ yX7_weeks cX7_weeks 3 (some .int)) { frames := 4, cells := 0, slots := 0, locals := 99 } (va_Pc ([.ref (am 0), .int p1] : List Value) (zPc D kk [zM am f, zA (kk 1) (am 1) 252 st] sz)) (va_Qi (fun (r : Int32) (u : (Nat → Int32) × (Nat → Int32)) => Q r u.1 u.2) (zB D (va_A [zM am f, zA (kk 1) (am 1) 252 st] sz) (fun u : (Nat → Int32) × (Nat → Int32) => [zM am u.1, zA (kk 1) (am 1) 252 u.2])) (va_A [zM am f, zA (kk 1) (am 1) 252 st] sz)) 0 0 (va_A [zM am f, zA (kk 1) (am 1) 252 st] sz) := by
  refine zMet (Qc := fun A => va_Qi (fun (r : Int32) (u : (Nat → Int32) × (Nat → Int32)) => Q r u.1 u.2) (zB D A (fun u : (Nat → Int32) × (Nat → Int32) => [zM am u.1, zA (kk 1) (am 1) 252 u.2])) A) (by decide) (Nat.le_of_ble_eq_true rfl) ?_
  intro p e s m below meth c A X hP hD hS ls hl
  obtain ⟨hx, hb, hr, hml, hown, hts, hlk, hnm, hK, hN, hA⟩ := X
  have hown : s.vm.findClass "LoseLeagueModel" = some m.cls := hown
  have hl : lv_has ls 3 [(0, .ref (am 0)), (1, .int p1)] := hl
  unfold wpX7_weeks at h
  refine lv_iload_n hx hb dX7_weeks_0 rfl (lv_at hl 1 rfl) ?_
  refine lv_i2l hx hb dX7_weeks_1 rfl ?_
  refine lv_lconst (v := (0 : Int64)) hx hb dX7_weeks_2 (by decide) ?_
  refine lv_ldc2 (v := (30 : Int64)) hx hb hown (hts _ q1167) dX7_weeks_3 ?_
  refine zc_i (wc := []) (wr := [zM am f, zA (kk 1) (am 1) 252 st]) (w1 := (fun u : Unit => [])) (rest := []) [] [0, 1] rfl rfl (by decide) (by decide) (by decide) hA hP hD hS (fun hP hD => va_runS (As := [.long (p1.toInt64), .long (0 : Int64), .long (30 : Int64)]) (rest := []) ⟨hx, hb, hml, hown, hts⟩ (metX7_in l D kk _ (p1.toInt64) (0 : Int64) (30 : Int64) _ h) (va_cwS 3 hts (lw_S q1033 q1034 q71 q1035) rfl rfl rfl pdX7_in.2 ⟨(Nat.le_of_ble_eq_true rfl), (Nat.le_of_ble_eq_true rfl)⟩) (zp_S hK hN hP hD) rfl rfl hl.1 rfl (lv_room (Nat.le_of_ble_eq_true rfl)) dX7_weeks_6 ⟨(Nat.le_of_ble_eq_true rfl), (Nat.le_of_ble_eq_true rfl)⟩) (fun r_1 u H locs h hP hD hS => ?_)
  try dsimp only at h
  have hP : va_P D vwCl [zM am f, zA (kk 1) (am 1) 252 st] H := hP
  have hD : va_D A [zM am f, zA (kk 1) (am 1) 252 st] := hD
  refine lv_if_ne (tgt := 14) hx hb dX7_weeks_9 (by decide) (fun c_2 => ?_) (fun c_2 => ?_)
  · have h := h.2 c_2
    refine lv_aload_n hx hb dX7_weeks_14 rfl (lv_at hl 0 rfl) ?_
    refine va_get (D := D) (ci := 7) (v := .ref (am 1)) (C := RX7) (T := TX7) (N := 29) hx hb hts in_X7 hown hK hP 0 rfl rfl 0 (Nat.le_of_ble_eq_true rfl) (hts _ q939) (fun _ h9 => h9) rfl dX7_weeks_15 ?_
    refine lv_bipush (v := (41 : Int32)) hx hb dX7_weeks_18 (by decide) ?_
    refine va_iald hx hb hK hP 1 1 rfl rfl (by unfold vp_in; decide) dX7_weeks_20 ?_
    refine lv_iload_n hx hb dX7_weeks_21 rfl (lv_at hl 1 rfl) ?_
    refine lv_iadd hx hb dX7_weeks_22 ?_
    refine lv_sipush (v := (999 : Int32)) hx hb dX7_weeks_23 (by decide) ?_
    refine lv_icmp_le (tgt := 32) hx hb dX7_weeks_26 (by decide) (fun c_3 => ?_) (fun c_3 => ?_)
    · have h := h.1 c_3
      refine lv_aload_n hx hb dX7_weeks_32 rfl (lv_at hl 0 rfl) ?_
      refine lv_iconst (v := (0 : Int32)) hx hb dX7_weeks_33 (by decide) ?_
      refine va_put (D := D) (ci := 7) (v := .int (0 : Int32)) (C := RX7) (T := TX7) (N := 29) hx hb hts in_X7 tyX7 tyX7_ok nmX7 hown hK hP hD hS 0 rfl rfl 17 (Nat.le_of_ble_eq_true rfl) (hts _ q956) (fun _ h9 => h9) rfl (tyX7_ok 17 (Nat.le_of_ble_eq_true rfl)) rfl rfl (Nat.le_of_ble_eq_true rfl) dX7_weeks_34 (fun H locs hP hD hS => ?_)
      have hP : va_P D vwCl [zM am (upd f 17 (0 : Int32)), zA (kk 1) (am 1) 252 st] H := hP
      have hD : va_D A [zM am (upd f 17 (0 : Int32)), zA (kk 1) (am 1) 252 st] := hD
      refine lv_iconst (v := (0 : Int32)) hx hb dX7_weeks_37 (by decide) ?_
      have cut_39 : ∀ (nl39 : Nat) (f : Nat → Int32) (st : Nat → Int32) (x2 : Int32), wpX7_weeks_39 p1 Q  nl39 f st x2 → ∀ (H : Heap) (locs : List Loc), va_P D vwCl [zM am f, zA (kk 1) (am 1) 252 st] H → va_D A [zM am f, zA (kk 1) (am 1) 252 st] → va_S A s.heap H locs → ∀ ls : Array Slot, lv_has ls 3 [(2, .int x2), (0, .ref (am 0)), (1, .int p1)] → W p l e { frames := 4, cells := 0, slots := 0, locals := 99 } s m ([.ref (am 0), .int p1] : List Value).toArray below meth c H locs 0 0 (MQ below (va_Qi (fun (r : Int32) (u : (Nat → Int32) × (Nat → Int32)) => Q r u.1 u.2) (zB D A (fun u : (Nat → Int32) × (Nat → Int32) => [zM am u.1, zA (kk 1) (am 1) 252 u.2])) A) ([.ref (am 0), .int p1] : List Value).toArray s 0 0 A) (F0 m 39 ls []) := by
        intro nl39
        induction nl39 with
        | zero => intro f st x2 h; exact absurd h id
        | succ nl39 ih_39 =>
          intro f st x2 h H locs hP hD hS ls hl
          have h : wbX7_weeks_39 p1 Q  (wpX7_weeks_39 p1 Q  nl39) f st x2 := h
          unfold wbX7_weeks_39 at h
          refine lv_iload_n hx hb dX7_weeks_39 rfl (lv_at hl 0 rfl) ?_
          refine lv_iload_n hx hb dX7_weeks_40 rfl (lv_at hl 2 rfl) ?_
          refine lv_icmp_ge (tgt := 56) hx hb dX7_weeks_41 (by decide) (fun c_4 => ?_) (fun c_4 => ?_)
          · have h := h.1 c_4
            refine lv_aload_n hx hb dX7_weeks_56 rfl (lv_at hl 1 rfl) ?_
            refine va_get (D := D) (ci := 7) (v := .int (f 17)) (C := RX7) (T := TX7) (N := 29) hx hb hts in_X7 hown hK hP 0 rfl rfl 17 (Nat.le_of_ble_eq_true rfl) (hts _ q956) (fun _ h9 => h9) rfl dX7_weeks_57 ?_
            exact zr_i hx hb hr hlk rfl hP hD hS (f, st) [0, 1] rfl (by decide) dX7_weeks_60 h
          · have h := h.2 c_4
            refine lv_aload_n hx hb dX7_weeks_44 rfl (lv_at hl 1 rfl) ?_
            refine lv_iconst (v := (0 : Int32)) hx hb dX7_weeks_45 (by decide) ?_
            refine lv_iconst (v := (0 : Int32)) hx hb dX7_weeks_46 (by decide) ?_
            have hrc := va_recv hK hP (ci := 7) (q0 := 0) rfl rfl
            refine zc_v (wc := [zM am f, zA (kk 1) (am 1) 252 st]) (wr := []) (w1 := (fun u : (Nat → Int32) × (Nat → Int32) => [zM am u.1, zA (kk 1) (am 1) 252 u.2])) (rest := []) [0, 1] [] rfl rfl (by decide) (by decide) (by decide) hA hP hD hS (fun hP hD => va_runV (As := [.int (0 : Int32), .int (0 : Int32)]) (rest := []) ⟨hx, hb, hml, hown, hts⟩ (metX7_weekOn l D kk am _ f st (0 : Int32) (0 : Int32) _ h) (cwV 2 hts (lw_V q1168 q1170 qs53 q71 q1171) rfl rfl rfl pdX7_weekOn ⟨(Nat.le_of_ble_eq_true rfl), (Nat.le_of_ble_eq_true rfl)⟩) (zp_V hK hN hrc hP hD) rfl rfl hl.1 rfl (lv_room (Nat.le_of_ble_eq_true rfl)) dX7_weeks_47 ⟨(Nat.le_of_ble_eq_true rfl), (Nat.le_of_ble_eq_true rfl)⟩) (fun u H locs h hP hD hS => ?_)
            obtain ⟨f_6, st_7⟩ := u
            try dsimp only at h
            have hP : va_P D vwCl [zM am f_6, zA (kk 1) (am 1) 252 st_7] H := hP
            have hD : va_D A [zM am f_6, zA (kk 1) (am 1) 252 st_7] := hD
            refine lv_iinc (v := (x2 + 1)) (lv' := [(2, .int (x2 + 1)), (0, .ref (am 0)), (1, .int p1)]) hx hb dX7_weeks_50 hl (k := 0) rfl rfl (by decide) rfl (fun ls hl => ?_)
            refine lv_goto (tgt := 39) hx hb dX7_weeks_53 (by decide) ?_
            exact ih_39 f_6 st_7 (x2 + 1) h _ _ hP hD hS _ (lv_sub hl [0, 1, 2] rfl)
      refine lv_istore_n (lv' := [(2, .int (0 : Int32)), (0, .ref (am 0)), (1, .int p1)]) hx hb dX7_weeks_38 rfl hl (by decide) rfl (fun ls hl => ?_)
      obtain ⟨n_39, h⟩ := h
      exact cut_39 n_39 (upd f 17 (0 : Int32)) st (0 : Int32) h _ _ hP hD hS _ (lv_sub hl [0, 1, 2] rfl)
    · have h := h.2 c_3
      refine lv_bipush (v := (-3 : Int32)) hx hb dX7_weeks_29 (by decide) ?_
      exact zr_i hx hb hr hlk rfl hP hD hS (f, st) [0, 1] rfl (by decide) dX7_weeks_31 h
  · have h := h.1 c_2
    refine lv_iconst (v := (-1 : Int32)) hx hb dX7_weeks_12 (by decide) ?_
    exact zr_i hx hb hr hlk rfl hP hD hS (f, st) [0, 1] rfl (by decide) dX7_weeks_13 h
