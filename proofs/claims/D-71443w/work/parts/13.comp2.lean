set_option maxRecDepth 100000
theorem pdX0_owedByTried : yX0_owedByTried.cls = "LoseLeague" ∧ yX0_owedByTried.cls ≠ "java/lang/invoke/MethodHandle" ∧ yX0_owedByTried.cls ≠ "java/lang/invoke/VarHandle" ∧ (parseMethodDescriptor yX0_owedByTried.desc).map (fun d => d.parameters.length) = some 1 := by decide +kernel
theorem peX0_owedByTried : yX0_owedByTried.name ≠ "<init>" ∧ (parseMethodDescriptor yX0_owedByTried.desc).map (fun d => d.parameters.length) = some 1 := by decide +kernel
theorem pdX0_feed : yX0_feed.cls = "LoseLeague" ∧ yX0_feed.cls ≠ "java/lang/invoke/MethodHandle" ∧ yX0_feed.cls ≠ "java/lang/invoke/VarHandle" ∧ (parseMethodDescriptor yX0_feed.desc).map (fun d => d.parameters.length) = some 1 := by decide +kernel
theorem peX0_feed : yX0_feed.name ≠ "<init>" ∧ (parseMethodDescriptor yX0_feed.desc).map (fun d => d.parameters.length) = some 1 := by decide +kernel
theorem pdX0_end : yX0_end.cls = "LoseLeague" ∧ yX0_end.cls ≠ "java/lang/invoke/MethodHandle" ∧ yX0_end.cls ≠ "java/lang/invoke/VarHandle" ∧ (parseMethodDescriptor yX0_end.desc).map (fun d => d.parameters.length) = some 1 := by decide +kernel
theorem peX0_end : yX0_end.name ≠ "<init>" ∧ (parseMethodDescriptor yX0_end.desc).map (fun d => d.parameters.length) = some 1 := by decide +kernel
theorem pdX0_fault : yX0_fault.cls = "LoseLeague" ∧ yX0_fault.cls ≠ "java/lang/invoke/MethodHandle" ∧ yX0_fault.cls ≠ "java/lang/invoke/VarHandle" ∧ (parseMethodDescriptor yX0_fault.desc).map (fun d => d.parameters.length) = some 0 := by decide +kernel
theorem peX0_fault : yX0_fault.name ≠ "<init>" ∧ (parseMethodDescriptor yX0_fault.desc).map (fun d => d.parameters.length) = some 0 := by decide +kernel
theorem pdX0_isTown : yX0_isTown.cls = "LoseLeague" ∧ yX0_isTown.cls ≠ "java/lang/invoke/MethodHandle" ∧ yX0_isTown.cls ≠ "java/lang/invoke/VarHandle" ∧ (parseMethodDescriptor yX0_isTown.desc).map (fun d => d.parameters.length) = some 1 := by decide +kernel
theorem peX0_isTown : yX0_isTown.name ≠ "<init>" ∧ (parseMethodDescriptor yX0_isTown.desc).map (fun d => d.parameters.length) = some 1 := by decide +kernel
theorem pdX0_areTwo : yX0_areTwo.cls = "LoseLeague" ∧ yX0_areTwo.cls ≠ "java/lang/invoke/MethodHandle" ∧ yX0_areTwo.cls ≠ "java/lang/invoke/VarHandle" ∧ (parseMethodDescriptor yX0_areTwo.desc).map (fun d => d.parameters.length) = some 2 := by decide +kernel
theorem peX0_areTwo : yX0_areTwo.name ≠ "<init>" ∧ (parseMethodDescriptor yX0_areTwo.desc).map (fun d => d.parameters.length) = some 2 := by decide +kernel
theorem pdX0_rule : yX0_rule.cls = "LoseLeague" ∧ yX0_rule.cls ≠ "java/lang/invoke/MethodHandle" ∧ yX0_rule.cls ≠ "java/lang/invoke/VarHandle" ∧ (parseMethodDescriptor yX0_rule.desc).map (fun d => d.parameters.length) = some 1 := by decide +kernel
theorem peX0_rule : yX0_rule.name ≠ "<init>" ∧ (parseMethodDescriptor yX0_rule.desc).map (fun d => d.parameters.length) = some 1 := by decide +kernel
theorem pdX0_town : yX0_town.cls = "LoseLeague" ∧ yX0_town.cls ≠ "java/lang/invoke/MethodHandle" ∧ yX0_town.cls ≠ "java/lang/invoke/VarHandle" ∧ (parseMethodDescriptor yX0_town.desc).map (fun d => d.parameters.length) = some 2 := by decide +kernel
theorem peX0_town : yX0_town.name ≠ "<init>" ∧ (parseMethodDescriptor yX0_town.desc).map (fun d => d.parameters.length) = some 2 := by decide +kernel
theorem pdX0_fixture : yX0_fixture.cls = "LoseLeague" ∧ yX0_fixture.cls ≠ "java/lang/invoke/MethodHandle" ∧ yX0_fixture.cls ≠ "java/lang/invoke/VarHandle" ∧ (parseMethodDescriptor yX0_fixture.desc).map (fun d => d.parameters.length) = some 2 := by decide +kernel
theorem peX0_fixture : yX0_fixture.name ≠ "<init>" ∧ (parseMethodDescriptor yX0_fixture.desc).map (fun d => d.parameters.length) = some 2 := by decide +kernel
theorem pdX0_game : yX0_game.cls = "LoseLeague" ∧ yX0_game.cls ≠ "java/lang/invoke/MethodHandle" ∧ yX0_game.cls ≠ "java/lang/invoke/VarHandle" ∧ (parseMethodDescriptor yX0_game.desc).map (fun d => d.parameters.length) = some 2 := by decide +kernel
theorem peX0_game : yX0_game.name ≠ "<init>" ∧ (parseMethodDescriptor yX0_game.desc).map (fun d => d.parameters.length) = some 2 := by decide +kernel
theorem pdX0_alter : yX0_alter.cls = "LoseLeague" ∧ yX0_alter.cls ≠ "java/lang/invoke/MethodHandle" ∧ yX0_alter.cls ≠ "java/lang/invoke/VarHandle" ∧ (parseMethodDescriptor yX0_alter.desc).map (fun d => d.parameters.length) = some 3 := by decide +kernel
theorem peX0_alter : yX0_alter.name ≠ "<init>" ∧ (parseMethodDescriptor yX0_alter.desc).map (fun d => d.parameters.length) = some 3 := by decide +kernel
theorem pdX0_whyNot : yX0_whyNot.cls = "LoseLeague" ∧ yX0_whyNot.cls ≠ "java/lang/invoke/MethodHandle" ∧ yX0_whyNot.cls ≠ "java/lang/invoke/VarHandle" ∧ (parseMethodDescriptor yX0_whyNot.desc).map (fun d => d.parameters.length) = some 3 := by decide +kernel
theorem peX0_whyNot : yX0_whyNot.name ≠ "<init>" ∧ (parseMethodDescriptor yX0_whyNot.desc).map (fun d => d.parameters.length) = some 3 := by decide +kernel
theorem pdX0_lend : yX0_lend.cls = "LoseLeague" ∧ yX0_lend.cls ≠ "java/lang/invoke/MethodHandle" ∧ yX0_lend.cls ≠ "java/lang/invoke/VarHandle" ∧ (parseMethodDescriptor yX0_lend.desc).map (fun d => d.parameters.length) = some 3 := by decide +kernel
theorem peX0_lend : yX0_lend.name ≠ "<init>" ∧ (parseMethodDescriptor yX0_lend.desc).map (fun d => d.parameters.length) = some 3 := by decide +kernel
theorem pdX0_book : yX0_book.cls = "LoseLeague" ∧ yX0_book.cls ≠ "java/lang/invoke/MethodHandle" ∧ yX0_book.cls ≠ "java/lang/invoke/VarHandle" ∧ (parseMethodDescriptor yX0_book.desc).map (fun d => d.parameters.length) = some 2 := by decide +kernel
theorem peX0_book : yX0_book.name ≠ "<init>" ∧ (parseMethodDescriptor yX0_book.desc).map (fun d => d.parameters.length) = some 2 := by decide +kernel
theorem pdX0_strike : yX0_strike.cls = "LoseLeague" ∧ yX0_strike.cls ≠ "java/lang/invoke/MethodHandle" ∧ yX0_strike.cls ≠ "java/lang/invoke/VarHandle" ∧ (parseMethodDescriptor yX0_strike.desc).map (fun d => d.parameters.length) = some 1 := by decide +kernel
theorem peX0_strike : yX0_strike.name ≠ "<init>" ∧ (parseMethodDescriptor yX0_strike.desc).map (fun d => d.parameters.length) = some 1 := by decide +kernel
theorem pdX0_weeks : yX0_weeks.cls = "LoseLeague" ∧ yX0_weeks.cls ≠ "java/lang/invoke/MethodHandle" ∧ yX0_weeks.cls ≠ "java/lang/invoke/VarHandle" ∧ (parseMethodDescriptor yX0_weeks.desc).map (fun d => d.parameters.length) = some 1 := by decide +kernel
theorem peX0_weeks : yX0_weeks.name ≠ "<init>" ∧ (parseMethodDescriptor yX0_weeks.desc).map (fun d => d.parameters.length) = some 1 := by decide +kernel
theorem pdX0_runs : yX0_runs.cls = "LoseLeague" ∧ yX0_runs.cls ≠ "java/lang/invoke/MethodHandle" ∧ yX0_runs.cls ≠ "java/lang/invoke/VarHandle" ∧ (parseMethodDescriptor yX0_runs.desc).map (fun d => d.parameters.length) = some 2 := by decide +kernel
theorem peX0_runs : yX0_runs.name ≠ "<init>" ∧ (parseMethodDescriptor yX0_runs.desc).map (fun d => d.parameters.length) = some 2 := by decide +kernel
theorem pdX0_ahead : yX0_ahead.cls = "LoseLeague" ∧ yX0_ahead.cls ≠ "java/lang/invoke/MethodHandle" ∧ yX0_ahead.cls ≠ "java/lang/invoke/VarHandle" ∧ (parseMethodDescriptor yX0_ahead.desc).map (fun d => d.parameters.length) = some 3 := by decide +kernel
theorem peX0_ahead : yX0_ahead.name ≠ "<init>" ∧ (parseMethodDescriptor yX0_ahead.desc).map (fun d => d.parameters.length) = some 3 := by decide +kernel
theorem pdX0_loser : yX0_loser.cls = "LoseLeague" ∧ yX0_loser.cls ≠ "java/lang/invoke/MethodHandle" ∧ yX0_loser.cls ≠ "java/lang/invoke/VarHandle" ∧ (parseMethodDescriptor yX0_loser.desc).map (fun d => d.parameters.length) = some 1 := by decide +kernel
theorem peX0_loser : yX0_loser.name ≠ "<init>" ∧ (parseMethodDescriptor yX0_loser.desc).map (fun d => d.parameters.length) = some 1 := by decide +kernel
theorem pdX0_loses : yX0_loses.cls = "LoseLeague" ∧ yX0_loses.cls ≠ "java/lang/invoke/MethodHandle" ∧ yX0_loses.cls ≠ "java/lang/invoke/VarHandle" ∧ (parseMethodDescriptor yX0_loses.desc).map (fun d => d.parameters.length) = some 1 := by decide +kernel
theorem peX0_loses : yX0_loses.name ≠ "<init>" ∧ (parseMethodDescriptor yX0_loses.desc).map (fun d => d.parameters.length) = some 1 := by decide +kernel
def wpX0_owedByTried (f : Nat → Int32) (flt : Nat → Int32) (twt : Nat → Int32) (fxt : Nat → Int32) (p1 : Int32) (Q : Int32 → (Nat → Int32) → (Nat → Int32) → (Nat → Int32) → Prop) : Prop :=
  (wpX0_weeksGo f flt twt fxt p1 (fun f_2 flt_3 twt_4 => (wpX5_sumOf flt_3 twt_4 (3 : Int32) (fun r_5 => Q r_5 f_2 flt_3 twt_4))))
set_option maxHeartbeats 4000000 in
theorem metX0_owedByTried (l : Launch) (D : va_G) (kk : Nat → ClassId) (ad : Nat → Nat) (sz : Nat) (f : Nat → Int32) (g : Nat → Int64) (flt : Nat → Int32) (twt : Nat → Int32) (fxt : Nat → Int32) (p1 : Int32) (Q : Int32 → (Nat → Int32) → (Nat → Int32) → (Nat → Int32) → Prop) (h : wpX0_owedByTried f flt twt fxt p1 Q) : Met l yX0_owedByTried (ws_ yX0_owedByTried cX0_owedByTried 2 (some .int)) { frames := 8, cells := 0, slots := 0, locals := 183 } (va_Pc ([.ref (ad 0), .int p1] : List Value) (zPc D kk [zO ad f g, zQ (kk 4) (ad 1) 4 (zKf ad), zJ (ad 2) 1, zJ (ad 3) 2, zJ (ad 4) 3, zJ (ad 5) 4, zL (ad 9) (ad 10) (ad 11) flt, zA (kk 0) (ad 10) 20 twt, zA (kk 0) (ad 11) 20 fxt] sz)) (va_Qi (fun (r : Int32) (u : (Nat → Int32) × (Nat → Int32) × (Nat → Int32)) => Q r u.1 u.2.1 u.2.2) (zB D (va_A [zO ad f g, zQ (kk 4) (ad 1) 4 (zKf ad), zJ (ad 2) 1, zJ (ad 3) 2, zJ (ad 4) 3, zJ (ad 5) 4, zL (ad 9) (ad 10) (ad 11) flt, zA (kk 0) (ad 10) 20 twt, zA (kk 0) (ad 11) 20 fxt] sz) (fun u : (Nat → Int32) × (Nat → Int32) × (Nat → Int32) => [zO ad u.1 g, zQ (kk 4) (ad 1) 4 (zKf ad), zJ (ad 2) 1, zJ (ad 3) 2, zJ (ad 4) 3, zJ (ad 5) 4, zL (ad 9) (ad 10) (ad 11) u.2.1, zA (kk 0) (ad 10) 20 u.2.2, zA (kk 0) (ad 11) 20 fxt])) (va_A [zO ad f g, zQ (kk 4) (ad 1) 4 (zKf ad), zJ (ad 2) 1, zJ (ad 3) 2, zJ (ad 4) 3, zJ (ad 5) 4, zL (ad 9) (ad 10) (ad 11) flt, zA (kk 0) (ad 10) 20 twt, zA (kk 0) (ad 11) 20 fxt] sz)) 0 0 (va_A [zO ad f g, zQ (kk 4) (ad 1) 4 (zKf ad), zJ (ad 2) 1, zJ (ad 3) 2, zJ (ad 4) 3, zJ (ad 5) 4, zL (ad 9) (ad 10) (ad 11) flt, zA (kk 0) (ad 10) 20 twt, zA (kk 0) (ad 11) 20 fxt] sz) := by
  refine zMet (Qc := fun A => va_Qi (fun (r : Int32) (u : (Nat → Int32) × (Nat → Int32) × (Nat → Int32)) => Q r u.1 u.2.1 u.2.2) (zB D A (fun u : (Nat → Int32) × (Nat → Int32) × (Nat → Int32) => [zO ad u.1 g, zQ (kk 4) (ad 1) 4 (zKf ad), zJ (ad 2) 1, zJ (ad 3) 2, zJ (ad 4) 3, zJ (ad 5) 4, zL (ad 9) (ad 10) (ad 11) u.2.1, zA (kk 0) (ad 10) 20 u.2.2, zA (kk 0) (ad 11) 20 fxt])) A) (by decide) (Nat.le_of_ble_eq_true rfl) ?_
  intro p e s m below meth c A X hP hD hS ls hl
  obtain ⟨hx, hb, hr, hml, hown, hts, hlk, hnm, hK, hN, hA⟩ := X
  have hown : s.vm.findClass "LoseLeague" = some m.cls := hown
  have hl : lv_has ls 2 [(0, .ref (ad 0)), (1, .int p1)] := hl
  unfold wpX0_owedByTried at h
  refine lv_aload_n hx hb dX0_owedByTried_0 rfl (lv_at hl 0 rfl) ?_
  refine lv_aload_n hx hb dX0_owedByTried_1 rfl (lv_at hl 0 rfl) ?_
  refine va_get (D := D) (ci := 0) (v := .ref (ad 9)) (C := RX0) (T := TX0) (N := 25) hx hb hts in_X0 hown hK hP 0 rfl rfl 2 (Nat.le_of_ble_eq_true rfl) (hts _ q174) (fun _ h9 => h9) rfl dX0_owedByTried_2 ?_
  refine lv_iload_n hx hb dX0_owedByTried_5 rfl (lv_at hl 1 rfl) ?_
  have hrc := va_recv hK hP (ci := 0) (q0 := 0) rfl rfl
  refine zc_v (wc := [zO ad f g, zQ (kk 4) (ad 1) 4 (zKf ad), zJ (ad 2) 1, zJ (ad 3) 2, zJ (ad 4) 3, zJ (ad 5) 4, zL (ad 9) (ad 10) (ad 11) flt, zA (kk 0) (ad 10) 20 twt, zA (kk 0) (ad 11) 20 fxt]) (wr := []) (w1 := (fun u : (Nat → Int32) × (Nat → Int32) × (Nat → Int32) => [zO ad u.1 g, zQ (kk 4) (ad 1) 4 (zKf ad), zJ (ad 2) 1, zJ (ad 3) 2, zJ (ad 4) 3, zJ (ad 5) 4, zL (ad 9) (ad 10) (ad 11) u.2.1, zA (kk 0) (ad 10) 20 u.2.2, zA (kk 0) (ad 11) 20 fxt])) (rest := []) [0, 1, 2, 3, 4, 5, 6, 7, 8] [] rfl rfl (by decide) (by decide) (by decide) hA hP hD hS (fun hP hD => va_runV (As := [.ref (ad 9), .int p1]) (rest := []) ⟨hx, hb, hml, hown, hts⟩ (metX0_weeksGo l D kk ad (ad 9) (ad 10) (ad 11) _ f g flt twt fxt p1 _ h) (cwV 2 hts (lw_V q603 q605 qs15 q64 q606) rfl rfl rfl pdX0_weeksGo ⟨(Nat.le_of_ble_eq_true rfl), (Nat.le_of_ble_eq_true rfl)⟩) (zp_V hK hN hrc hP hD) rfl rfl hl.1 rfl (lv_room (Nat.le_of_ble_eq_true rfl)) dX0_owedByTried_6 ⟨(Nat.le_of_ble_eq_true rfl), (Nat.le_of_ble_eq_true rfl)⟩) (fun u H locs h hP hD hS => ?_)
  obtain ⟨f_2, flt_3, twt_4⟩ := u
  try dsimp only at h
  have hP : va_P D vwCl [zO ad f_2 g, zQ (kk 4) (ad 1) 4 (zKf ad), zJ (ad 2) 1, zJ (ad 3) 2, zJ (ad 4) 3, zJ (ad 5) 4, zL (ad 9) (ad 10) (ad 11) flt_3, zA (kk 0) (ad 10) 20 twt_4, zA (kk 0) (ad 11) 20 fxt] H := hP
  have hD : va_D A [zO ad f_2 g, zQ (kk 4) (ad 1) 4 (zKf ad), zJ (ad 2) 1, zJ (ad 3) 2, zJ (ad 4) 3, zJ (ad 5) 4, zL (ad 9) (ad 10) (ad 11) flt_3, zA (kk 0) (ad 10) 20 twt_4, zA (kk 0) (ad 11) 20 fxt] := hD
  refine lv_aload_n hx hb dX0_owedByTried_9 rfl (lv_at hl 0 rfl) ?_
  refine va_get (D := D) (ci := 0) (v := .ref (ad 9)) (C := RX0) (T := TX0) (N := 25) hx hb hts in_X0 hown hK hP 0 rfl rfl 2 (Nat.le_of_ble_eq_true rfl) (hts _ q174) (fun _ h9 => h9) rfl dX0_owedByTried_10 ?_
  refine lv_iconst (v := (3 : Int32)) hx hb dX0_owedByTried_13 (by decide) ?_
  have hrc := va_recv hK hP (ci := 5) (q0 := 6) rfl rfl
  refine zc_i (wc := [zL (ad 9) (ad 10) (ad 11) flt_3, zA (kk 0) (ad 10) 20 twt_4, zA (kk 0) (ad 11) 20 fxt]) (wr := [zO ad f_2 g, zQ (kk 4) (ad 1) 4 (zKf ad), zJ (ad 2) 1, zJ (ad 3) 2, zJ (ad 4) 3, zJ (ad 5) 4]) (w1 := (fun u : Unit => [zL (ad 9) (ad 10) (ad 11) flt_3, zA (kk 0) (ad 10) 20 twt_4, zA (kk 0) (ad 11) 20 fxt])) (rest := []) [6, 7, 8] [0, 1, 2, 3, 4, 5] rfl rfl (by decide) (by decide) (by decide) hA hP hD hS (fun hP hD => va_runV (As := [.int (3 : Int32)]) (rest := []) ⟨hx, hb, hml, hown, hts⟩ (metX5_sumOf l D kk (ad 9) (ad 10) (ad 11) _ flt_3 twt_4 fxt (3 : Int32) _ h) (cwV 1 hts (lw_V q516 q517 q518 q69 q519) rfl rfl rfl pdX5_sumOf ⟨(Nat.le_of_ble_eq_true rfl), (Nat.le_of_ble_eq_true rfl)⟩) (zp_V hK hN hrc hP hD) rfl rfl hl.1 rfl (lv_room (Nat.le_of_ble_eq_true rfl)) dX0_owedByTried_14 ⟨(Nat.le_of_ble_eq_true rfl), (Nat.le_of_ble_eq_true rfl)⟩) (fun r_5 u H locs h hP hD hS => ?_)
  try dsimp only at h
  have hP : va_P D vwCl [zO ad f_2 g, zQ (kk 4) (ad 1) 4 (zKf ad), zJ (ad 2) 1, zJ (ad 3) 2, zJ (ad 4) 3, zJ (ad 5) 4, zL (ad 9) (ad 10) (ad 11) flt_3, zA (kk 0) (ad 10) 20 twt_4, zA (kk 0) (ad 11) 20 fxt] H := hP
  have hD : va_D A [zO ad f_2 g, zQ (kk 4) (ad 1) 4 (zKf ad), zJ (ad 2) 1, zJ (ad 3) 2, zJ (ad 4) 3, zJ (ad 5) 4, zL (ad 9) (ad 10) (ad 11) flt_3, zA (kk 0) (ad 10) 20 twt_4, zA (kk 0) (ad 11) 20 fxt] := hD
  exact zr_i hx hb hr hlk rfl hP hD hS (f_2, flt_3, twt_4) [0, 1, 2, 3, 4, 5, 6, 7, 8] rfl (by decide) dX0_owedByTried_17 h
def wpX0_feed (f : Nat → Int32) (tape : Nat → Int32) (p1 : Int32) (Q : Int32 → (Nat → Int32) → (Nat → Int32) → Prop) : Prop :=
  (wpX0_in (p1.toInt64) (0 : Int64) (127 : Int64) (fun r_1 => ((r_1 = 0 → Q (-1 : Int32) f tape) ∧ (¬ r_1 = 0 → (((f 12) = (160 : Int32) → Q (-3 : Int32) f tape) ∧ (¬ (f 12) = (160 : Int32) → (vp_in (f 12) 160 ∧ Q ((f 12) + (1 : Int32)) (upd f 12 ((f 12) + (1 : Int32))) (upd tape (f 12).toNatClampNeg (vp_nar .byte (p1.toInt8.toInt32))))))))))
set_option maxHeartbeats 4000000 in
theorem metX0_feed (l : Launch) (D : va_G) (kk : Nat → ClassId) (ad : Nat → Nat) (sz : Nat) (f : Nat → Int32) (g : Nat → Int64) (tape : Nat → Int32) (p1 : Int32) (Q : Int32 → (Nat → Int32) → (Nat → Int32) → Prop) (h : wpX0_feed f tape p1 Q) : Met l yX0_feed (ws_ yX0_feed cX0_feed 2 (some .int)) { frames := 1, cells := 0, slots := 0, locals := 25 } (va_Pc ([.ref (ad 0), .int p1] : List Value) (zPc D kk [zO ad f g, zA (kk 0) (ad 20) 160 tape] sz)) (va_Qi (fun (r : Int32) (u : (Nat → Int32) × (Nat → Int32)) => Q r u.1 u.2) (zB D (va_A [zO ad f g, zA (kk 0) (ad 20) 160 tape] sz) (fun u : (Nat → Int32) × (Nat → Int32) => [zO ad u.1 g, zA (kk 0) (ad 20) 160 u.2])) (va_A [zO ad f g, zA (kk 0) (ad 20) 160 tape] sz)) 0 0 (va_A [zO ad f g, zA (kk 0) (ad 20) 160 tape] sz) := by
  refine zMet (Qc := fun A => va_Qi (fun (r : Int32) (u : (Nat → Int32) × (Nat → Int32)) => Q r u.1 u.2) (zB D A (fun u : (Nat → Int32) × (Nat → Int32) => [zO ad u.1 g, zA (kk 0) (ad 20) 160 u.2])) A) (by decide) (Nat.le_of_ble_eq_true rfl) ?_
  intro p e s m below meth c A X hP hD hS ls hl
  obtain ⟨hx, hb, hr, hml, hown, hts, hlk, hnm, hK, hN, hA⟩ := X
  have hown : s.vm.findClass "LoseLeague" = some m.cls := hown
  have hl : lv_has ls 2 [(0, .ref (ad 0)), (1, .int p1)] := hl
  unfold wpX0_feed at h
  refine lv_iload_n hx hb dX0_feed_0 rfl (lv_at hl 1 rfl) ?_
  refine lv_i2l hx hb dX0_feed_1 rfl ?_
  refine lv_lconst (v := (0 : Int64)) hx hb dX0_feed_2 (by decide) ?_
  refine lv_ldc2 (v := (127 : Int64)) hx hb hown (hts _ q253) dX0_feed_3 ?_
  refine zc_i (wc := []) (wr := [zO ad f g, zA (kk 0) (ad 20) 160 tape]) (w1 := (fun u : Unit => [])) (rest := []) [] [0, 1] rfl rfl (by decide) (by decide) (by decide) hA hP hD hS (fun hP hD => va_runS (As := [.long (p1.toInt64), .long (0 : Int64), .long (127 : Int64)]) (rest := []) ⟨hx, hb, hml, hown, hts⟩ (metX0_in l D kk _ (p1.toInt64) (0 : Int64) (127 : Int64) _ h) (va_cwS 3 hts (lw_S q254 q255 q64 q256) rfl rfl rfl pdX0_in.2 ⟨(Nat.le_of_ble_eq_true rfl), (Nat.le_of_ble_eq_true rfl)⟩) (zp_S hK hN hP hD) rfl rfl hl.1 rfl (lv_room (Nat.le_of_ble_eq_true rfl)) dX0_feed_6 ⟨(Nat.le_of_ble_eq_true rfl), (Nat.le_of_ble_eq_true rfl)⟩) (fun r_1 u H locs h hP hD hS => ?_)
  try dsimp only at h
  have hP : va_P D vwCl [zO ad f g, zA (kk 0) (ad 20) 160 tape] H := hP
  have hD : va_D A [zO ad f g, zA (kk 0) (ad 20) 160 tape] := hD
  refine lv_if_ne (tgt := 14) hx hb dX0_feed_9 (by decide) (fun c_2 => ?_) (fun c_2 => ?_)
  · have h := h.2 c_2
    refine lv_aload_n hx hb dX0_feed_14 rfl (lv_at hl 0 rfl) ?_
    refine va_get (D := D) (ci := 0) (v := .int (f 12)) (C := RX0) (T := TX0) (N := 25) hx hb hts in_X0 hown hK hP 0 rfl rfl 12 (Nat.le_of_ble_eq_true rfl) (hts _ q185) (fun _ h9 => h9) rfl dX0_feed_15 ?_
    refine lv_sipush (v := (160 : Int32)) hx hb dX0_feed_18 (by decide) ?_
    refine lv_icmp_ne (tgt := 27) hx hb dX0_feed_21 (by decide) (fun c_3 => ?_) (fun c_3 => ?_)
    · have h := h.2 c_3
      refine lv_aload_n hx hb dX0_feed_27 rfl (lv_at hl 0 rfl) ?_
      refine va_get (D := D) (ci := 0) (v := .ref (ad 20)) (C := RX0) (T := TX0) (N := 25) hx hb hts in_X0 hown hK hP 0 rfl rfl 11 (Nat.le_of_ble_eq_true rfl) (hts _ q184) (fun _ h9 => h9) rfl dX0_feed_28 ?_
      refine lv_aload_n hx hb dX0_feed_31 rfl (lv_at hl 0 rfl) ?_
      refine va_get (D := D) (ci := 0) (v := .int (f 12)) (C := RX0) (T := TX0) (N := 25) hx hb hts in_X0 hown hK hP 0 rfl rfl 12 (Nat.le_of_ble_eq_true rfl) (hts _ q185) (fun _ h9 => h9) rfl dX0_feed_32 ?_
      refine lv_iload_n hx hb dX0_feed_35 rfl (lv_at hl 1 rfl) ?_
      refine lv_i2b hx hb dX0_feed_36 rfl ?_
      obtain ⟨hin, h⟩ := h
      refine va_bast hx hb hK hP hD hS 1 0 rfl rfl hin dX0_feed_37 (fun H locs hP hD hS => ?_)
      have hP : va_P D vwCl [zO ad f g, zA (kk 0) (ad 20) 160 (upd tape (f 12).toNatClampNeg (vp_nar .byte (p1.toInt8.toInt32)))] H := hP
      have hD : va_D A [zO ad f g, zA (kk 0) (ad 20) 160 (upd tape (f 12).toNatClampNeg (vp_nar .byte (p1.toInt8.toInt32)))] := hD
      refine lv_aload_n hx hb dX0_feed_38 rfl (lv_at hl 0 rfl) ?_
      refine lv_dup hx hb dX0_feed_39 rfl ?_
      refine va_get (D := D) (ci := 0) (v := .int (f 12)) (C := RX0) (T := TX0) (N := 25) hx hb hts in_X0 hown hK hP 0 rfl rfl 12 (Nat.le_of_ble_eq_true rfl) (hts _ q185) (fun _ h9 => h9) rfl dX0_feed_40 ?_
      refine lv_iconst (v := (1 : Int32)) hx hb dX0_feed_43 (by decide) ?_
      refine lv_iadd hx hb dX0_feed_44 ?_
      refine va_put (D := D) (ci := 0) (v := .int ((f 12) + (1 : Int32))) (C := RX0) (T := TX0) (N := 25) hx hb hts in_X0 tyX0 tyX0_ok nmX0 hown hK hP hD hS 0 rfl rfl 12 (Nat.le_of_ble_eq_true rfl) (hts _ q185) (fun _ h9 => h9) rfl (tyX0_ok 12 (Nat.le_of_ble_eq_true rfl)) rfl rfl (Nat.le_of_ble_eq_true rfl) dX0_feed_45 (fun H locs hP hD hS => ?_)
      have hP : va_P D vwCl [zO ad (upd f 12 ((f 12) + (1 : Int32))) g, zA (kk 0) (ad 20) 160 (upd tape (f 12).toNatClampNeg (vp_nar .byte (p1.toInt8.toInt32)))] H := hP
      have hD : va_D A [zO ad (upd f 12 ((f 12) + (1 : Int32))) g, zA (kk 0) (ad 20) 160 (upd tape (f 12).toNatClampNeg (vp_nar .byte (p1.toInt8.toInt32)))] := hD
      refine lv_aload_n hx hb dX0_feed_48 rfl (lv_at hl 0 rfl) ?_
      refine va_get (D := D) (ci := 0) (v := .int ((f 12) + (1 : Int32))) (C := RX0) (T := TX0) (N := 25) hx hb hts in_X0 hown hK hP 0 rfl rfl 12 (Nat.le_of_ble_eq_true rfl) (hts _ q185) (fun _ h9 => h9) rfl dX0_feed_49 ?_
      exact zr_i hx hb hr hlk rfl hP hD hS ((upd f 12 ((f 12) + (1 : Int32))), (upd tape (f 12).toNatClampNeg (vp_nar .byte (p1.toInt8.toInt32)))) [0, 1] rfl (by decide) dX0_feed_52 h
    · have h := h.1 c_3
      refine lv_bipush (v := (-3 : Int32)) hx hb dX0_feed_24 (by decide) ?_
      exact zr_i hx hb hr hlk rfl hP hD hS (f, tape) [0, 1] rfl (by decide) dX0_feed_26 h
  · have h := h.1 c_2
    refine lv_iconst (v := (-1 : Int32)) hx hb dX0_feed_12 (by decide) ?_
    exact zr_i hx hb hr hlk rfl hP hD hS (f, tape) [0, 1] rfl (by decide) dX0_feed_13 h
def wpX0_end (f : Nat → Int32) (p1 : Int32) (Q : Int32 → (Nat → Int32) → Prop) : Prop :=
  (wpX0_in (p1.toInt64) (0 : Int64) ((f 12).toInt64) (fun r_1 => ((r_1 = 0 → Q (-1 : Int32) f) ∧ (¬ r_1 = 0 → Q (f 12) (upd f 12 p1)))))
set_option maxHeartbeats 4000000 in
theorem metX0_end (l : Launch) (D : va_G) (kk : Nat → ClassId) (ad : Nat → Nat) (sz : Nat) (f : Nat → Int32) (g : Nat → Int64) (p1 : Int32) (Q : Int32 → (Nat → Int32) → Prop) (h : wpX0_end f p1 Q) : Met l yX0_end (ws_ yX0_end cX0_end 3 (some .int)) { frames := 1, cells := 0, slots := 0, locals := 25 } (va_Pc ([.ref (ad 0), .int p1] : List Value) (zPc D kk [zO ad f g] sz)) (va_Qi (fun (r : Int32) (u : (Nat → Int32)) => Q r u) (zB D (va_A [zO ad f g] sz) (fun u : (Nat → Int32) => [zO ad u g])) (va_A [zO ad f g] sz)) 0 0 (va_A [zO ad f g] sz) := by
  refine zMet (Qc := fun A => va_Qi (fun (r : Int32) (u : (Nat → Int32)) => Q r u) (zB D A (fun u : (Nat → Int32) => [zO ad u g])) A) (by decide) (Nat.le_of_ble_eq_true rfl) ?_
  intro p e s m below meth c A X hP hD hS ls hl
  obtain ⟨hx, hb, hr, hml, hown, hts, hlk, hnm, hK, hN, hA⟩ := X
  have hown : s.vm.findClass "LoseLeague" = some m.cls := hown
  have hl : lv_has ls 3 [(0, .ref (ad 0)), (1, .int p1)] := hl
  unfold wpX0_end at h
  refine lv_iload_n hx hb dX0_end_0 rfl (lv_at hl 1 rfl) ?_
  refine lv_i2l hx hb dX0_end_1 rfl ?_
  refine lv_lconst (v := (0 : Int64)) hx hb dX0_end_2 (by decide) ?_
  refine lv_aload_n hx hb dX0_end_3 rfl (lv_at hl 0 rfl) ?_
  refine va_get (D := D) (ci := 0) (v := .int (f 12)) (C := RX0) (T := TX0) (N := 25) hx hb hts in_X0 hown hK hP 0 rfl rfl 12 (Nat.le_of_ble_eq_true rfl) (hts _ q185) (fun _ h9 => h9) rfl dX0_end_4 ?_
  refine lv_i2l hx hb dX0_end_7 rfl ?_
  refine zc_i (wc := []) (wr := [zO ad f g]) (w1 := (fun u : Unit => [])) (rest := []) [] [0] rfl rfl (by decide) (by decide) (by decide) hA hP hD hS (fun hP hD => va_runS (As := [.long (p1.toInt64), .long (0 : Int64), .long ((f 12).toInt64)]) (rest := []) ⟨hx, hb, hml, hown, hts⟩ (metX0_in l D kk _ (p1.toInt64) (0 : Int64) ((f 12).toInt64) _ h) (va_cwS 3 hts (lw_S q254 q255 q64 q256) rfl rfl rfl pdX0_in.2 ⟨(Nat.le_of_ble_eq_true rfl), (Nat.le_of_ble_eq_true rfl)⟩) (zp_S hK hN hP hD) rfl rfl hl.1 rfl (lv_room (Nat.le_of_ble_eq_true rfl)) dX0_end_8 ⟨(Nat.le_of_ble_eq_true rfl), (Nat.le_of_ble_eq_true rfl)⟩) (fun r_1 u H locs h hP hD hS => ?_)
  try dsimp only at h
  have hP : va_P D vwCl [zO ad f g] H := hP
  have hD : va_D A [zO ad f g] := hD
  refine lv_if_ne (tgt := 16) hx hb dX0_end_11 (by decide) (fun c_2 => ?_) (fun c_2 => ?_)
  · have h := h.2 c_2
    refine lv_aload_n hx hb dX0_end_16 rfl (lv_at hl 0 rfl) ?_
    refine va_get (D := D) (ci := 0) (v := .int (f 12)) (C := RX0) (T := TX0) (N := 25) hx hb hts in_X0 hown hK hP 0 rfl rfl 12 (Nat.le_of_ble_eq_true rfl) (hts _ q185) (fun _ h9 => h9) rfl dX0_end_17 ?_
    refine lv_istore_n (lv' := [(2, .int (f 12)), (0, .ref (ad 0)), (1, .int p1)]) hx hb dX0_end_20 rfl hl (by decide) rfl (fun ls hl => ?_)
    refine lv_aload_n hx hb dX0_end_21 rfl (lv_at hl 1 rfl) ?_
    refine lv_iload_n hx hb dX0_end_22 rfl (lv_at hl 2 rfl) ?_
    refine va_put (D := D) (ci := 0) (v := .int p1) (C := RX0) (T := TX0) (N := 25) hx hb hts in_X0 tyX0 tyX0_ok nmX0 hown hK hP hD hS 0 rfl rfl 12 (Nat.le_of_ble_eq_true rfl) (hts _ q185) (fun _ h9 => h9) rfl (tyX0_ok 12 (Nat.le_of_ble_eq_true rfl)) rfl rfl (Nat.le_of_ble_eq_true rfl) dX0_end_23 (fun H locs hP hD hS => ?_)
    have hP : va_P D vwCl [zO ad (upd f 12 p1) g] H := hP
    have hD : va_D A [zO ad (upd f 12 p1) g] := hD
    refine lv_iload_n hx hb dX0_end_26 rfl (lv_at hl 0 rfl) ?_
    exact zr_i hx hb hr hlk rfl hP hD hS ((upd f 12 p1)) [0] rfl (by decide) dX0_end_27 h
  · have h := h.1 c_2
    refine lv_iconst (v := (-1 : Int32)) hx hb dX0_end_14 (by decide) ?_
    exact zr_i hx hb hr hlk rfl hP hD hS (f) [0] rfl (by decide) dX0_end_15 h
def wpX0_fault (f : Nat → Int32) (Q : Int32 → Prop) : Prop :=
  Q (f 13)
set_option maxHeartbeats 4000000 in
theorem metX0_fault (l : Launch) (D : va_G) (kk : Nat → ClassId) (ad : Nat → Nat) (sz : Nat) (f : Nat → Int32) (g : Nat → Int64) (Q : Int32 → Prop) (h : wpX0_fault f Q) : Met l yX0_fault (ws_ yX0_fault cX0_fault 1 (some .int)) { frames := 0, cells := 0, slots := 0, locals := 0 } (va_Pc ([.ref (ad 0)] : List Value) (zPc D kk [zO ad f g] sz)) (va_Qi (fun (r : Int32) (u : Unit) => Q r ) (zB D (va_A [zO ad f g] sz) (fun u : Unit => [zO ad f g])) (va_A [zO ad f g] sz)) 0 0 (va_A [zO ad f g] sz) := by
  refine zMet (Qc := fun A => va_Qi (fun (r : Int32) (u : Unit) => Q r ) (zB D A (fun u : Unit => [zO ad f g])) A) (by decide) (Nat.le_of_ble_eq_true rfl) ?_
  intro p e s m below meth c A X hP hD hS ls hl
  obtain ⟨hx, hb, hr, hml, hown, hts, hlk, hnm, hK, hN, hA⟩ := X
  have hown : s.vm.findClass "LoseLeague" = some m.cls := hown
  have hl : lv_has ls 1 [(0, .ref (ad 0))] := hl
  unfold wpX0_fault at h
  refine lv_aload_n hx hb dX0_fault_0 rfl (lv_at hl 0 rfl) ?_
  refine va_get (D := D) (ci := 0) (v := .int (f 13)) (C := RX0) (T := TX0) (N := 25) hx hb hts in_X0 hown hK hP 0 rfl rfl 13 (Nat.le_of_ble_eq_true rfl) (hts _ q186) (fun _ h9 => h9) rfl dX0_fault_1 ?_
  exact zr_i hx hb hr hlk rfl hP hD hS () [0] rfl (by decide) dX0_fault_4 h
def wpX0_isTown (fln : Nat → Int32) (p1 : Int32) (Q : Int32 → Prop) : Prop :=
  (wpX0_in (p1.toInt64) (0 : Int64) (((fln 0) - (1 : Int32)).toInt64) (fun r_1 => (narrow .boolean (.int r_1) = .int r_1 ∧ Q r_1)))
set_option maxHeartbeats 4000000 in
theorem metX0_isTown (l : Launch) (D : va_G) (kk : Nat → ClassId) (ad : Nat → Nat) (sz : Nat) (f : Nat → Int32) (g : Nat → Int64) (fln : Nat → Int32) (twn : Nat → Int32) (fxn : Nat → Int32) (p1 : Int32) (Q : Int32 → Prop) (h : wpX0_isTown fln p1 Q) : Met l yX0_isTown (ws_ yX0_isTown cX0_isTown 2 (some .boolean)) { frames := 1, cells := 0, slots := 0, locals := 25 } (va_Pc ([.ref (ad 0), .int p1] : List Value) (zPc D kk [zO ad f g, zL (ad 6) (ad 7) (ad 8) fln, zA (kk 0) (ad 7) 20 twn, zA (kk 0) (ad 8) 20 fxn] sz)) (va_Qi (fun (r : Int32) (u : Unit) => Q r ) (zB D (va_A [zO ad f g, zL (ad 6) (ad 7) (ad 8) fln, zA (kk 0) (ad 7) 20 twn, zA (kk 0) (ad 8) 20 fxn] sz) (fun u : Unit => [zO ad f g, zL (ad 6) (ad 7) (ad 8) fln, zA (kk 0) (ad 7) 20 twn, zA (kk 0) (ad 8) 20 fxn])) (va_A [zO ad f g, zL (ad 6) (ad 7) (ad 8) fln, zA (kk 0) (ad 7) 20 twn, zA (kk 0) (ad 8) 20 fxn] sz)) 0 0 (va_A [zO ad f g, zL (ad 6) (ad 7) (ad 8) fln, zA (kk 0) (ad 7) 20 twn, zA (kk 0) (ad 8) 20 fxn] sz) := by
  refine zMet (Qc := fun A => va_Qi (fun (r : Int32) (u : Unit) => Q r ) (zB D A (fun u : Unit => [zO ad f g, zL (ad 6) (ad 7) (ad 8) fln, zA (kk 0) (ad 7) 20 twn, zA (kk 0) (ad 8) 20 fxn])) A) (by decide) (Nat.le_of_ble_eq_true rfl) ?_
  intro p e s m below meth c A X hP hD hS ls hl
  obtain ⟨hx, hb, hr, hml, hown, hts, hlk, hnm, hK, hN, hA⟩ := X
  have hown : s.vm.findClass "LoseLeague" = some m.cls := hown
  have hl : lv_has ls 2 [(0, .ref (ad 0)), (1, .int p1)] := hl
  unfold wpX0_isTown at h
  refine lv_iload_n hx hb dX0_isTown_0 rfl (lv_at hl 1 rfl) ?_
  refine lv_i2l hx hb dX0_isTown_1 rfl ?_
  refine lv_lconst (v := (0 : Int64)) hx hb dX0_isTown_2 (by decide) ?_
  refine lv_aload_n hx hb dX0_isTown_3 rfl (lv_at hl 0 rfl) ?_
  refine va_get (D := D) (ci := 0) (v := .ref (ad 6)) (C := RX0) (T := TX0) (N := 25) hx hb hts in_X0 hown hK hP 0 rfl rfl 1 (Nat.le_of_ble_eq_true rfl) (hts _ q173) (fun _ h9 => h9) rfl dX0_isTown_4 ?_
  refine va_getN (D := D) (ci := 5) (v := .int (fln 0)) (C := RX5) (T := TX5) (N := 6) hx hb hts in_X5 hown hK hP 1 rfl rfl 0 (Nat.le_of_ble_eq_true rfl) (zN_f hN 1 rfl rfl) (fun _ h9 => h9) rfl dX0_isTown_7 ?_
  refine lv_iconst (v := (1 : Int32)) hx hb dX0_isTown_10 (by decide) ?_
  refine lv_isub hx hb dX0_isTown_11 ?_
  refine lv_i2l hx hb dX0_isTown_12 rfl ?_
  refine zc_i (wc := []) (wr := [zO ad f g, zL (ad 6) (ad 7) (ad 8) fln, zA (kk 0) (ad 7) 20 twn, zA (kk 0) (ad 8) 20 fxn]) (w1 := (fun u : Unit => [])) (rest := []) [] [0, 1, 2, 3] rfl rfl (by decide) (by decide) (by decide) hA hP hD hS (fun hP hD => va_runS (As := [.long (p1.toInt64), .long (0 : Int64), .long (((fln 0) - (1 : Int32)).toInt64)]) (rest := []) ⟨hx, hb, hml, hown, hts⟩ (metX0_in l D kk _ (p1.toInt64) (0 : Int64) (((fln 0) - (1 : Int32)).toInt64) _ h) (va_cwS 3 hts (lw_S q254 q255 q64 q256) rfl rfl rfl pdX0_in.2 ⟨(Nat.le_of_ble_eq_true rfl), (Nat.le_of_ble_eq_true rfl)⟩) (zp_S hK hN hP hD) rfl rfl hl.1 rfl (lv_room (Nat.le_of_ble_eq_true rfl)) dX0_isTown_13 ⟨(Nat.le_of_ble_eq_true rfl), (Nat.le_of_ble_eq_true rfl)⟩) (fun r_1 u H locs h hP hD hS => ?_)
  try dsimp only at h
  have hP : va_P D vwCl [zO ad f g, zL (ad 6) (ad 7) (ad 8) fln, zA (kk 0) (ad 7) 20 twn, zA (kk 0) (ad 8) 20 fxn] H := hP
  have hD : va_D A [zO ad f g, zL (ad 6) (ad 7) (ad 8) fln, zA (kk 0) (ad 7) 20 twn, zA (kk 0) (ad 8) 20 fxn] := hD
  obtain ⟨hnar, h⟩ := h
  exact zr_i hx hb hr hlk hnar hP hD hS () [0, 1, 2, 3] rfl (by decide) dX0_isTown_16 h
def wpX0_areTwo (fln : Nat → Int32) (p1 : Int32) (p2 : Int32) (Q : Int32 → Prop) : Prop :=
  (wpX0_isTown fln p1 (fun r_1 => ((r_1 = 0 → Q (0 : Int32)) ∧ (¬ r_1 = 0 → (wpX0_isTown fln p2 (fun r_3 => ((r_3 = 0 → Q (0 : Int32)) ∧ (¬ r_3 = 0 → ((p1 = p2 → Q (0 : Int32)) ∧ (¬ p1 = p2 → Q (1 : Int32)))))))))))
set_option maxHeartbeats 4000000 in
theorem metX0_areTwo (l : Launch) (D : va_G) (kk : Nat → ClassId) (ad : Nat → Nat) (sz : Nat) (f : Nat → Int32) (g : Nat → Int64) (fln : Nat → Int32) (twn : Nat → Int32) (fxn : Nat → Int32) (p1 : Int32) (p2 : Int32) (Q : Int32 → Prop) (h : wpX0_areTwo fln p1 p2 Q) : Met l yX0_areTwo (ws_ yX0_areTwo cX0_areTwo 3 (some .boolean)) { frames := 2, cells := 0, slots := 0, locals := 46 } (va_Pc ([.ref (ad 0), .int p1, .int p2] : List Value) (zPc D kk [zO ad f g, zL (ad 6) (ad 7) (ad 8) fln, zA (kk 0) (ad 7) 20 twn, zA (kk 0) (ad 8) 20 fxn] sz)) (va_Qi (fun (r : Int32) (u : Unit) => Q r ) (zB D (va_A [zO ad f g, zL (ad 6) (ad 7) (ad 8) fln, zA (kk 0) (ad 7) 20 twn, zA (kk 0) (ad 8) 20 fxn] sz) (fun u : Unit => [zO ad f g, zL (ad 6) (ad 7) (ad 8) fln, zA (kk 0) (ad 7) 20 twn, zA (kk 0) (ad 8) 20 fxn])) (va_A [zO ad f g, zL (ad 6) (ad 7) (ad 8) fln, zA (kk 0) (ad 7) 20 twn, zA (kk 0) (ad 8) 20 fxn] sz)) 0 0 (va_A [zO ad f g, zL (ad 6) (ad 7) (ad 8) fln, zA (kk 0) (ad 7) 20 twn, zA (kk 0) (ad 8) 20 fxn] sz) := by
  refine zMet (Qc := fun A => va_Qi (fun (r : Int32) (u : Unit) => Q r ) (zB D A (fun u : Unit => [zO ad f g, zL (ad 6) (ad 7) (ad 8) fln, zA (kk 0) (ad 7) 20 twn, zA (kk 0) (ad 8) 20 fxn])) A) (by decide) (Nat.le_of_ble_eq_true rfl) ?_
  intro p e s m below meth c A X hP hD hS ls hl
  obtain ⟨hx, hb, hr, hml, hown, hts, hlk, hnm, hK, hN, hA⟩ := X
  have hown : s.vm.findClass "LoseLeague" = some m.cls := hown
  have hl : lv_has ls 3 [(0, .ref (ad 0)), (1, .int p1), (2, .int p2)] := hl
  unfold wpX0_areTwo at h
  refine lv_aload_n hx hb dX0_areTwo_0 rfl (lv_at hl 0 rfl) ?_
  refine lv_iload_n hx hb dX0_areTwo_1 rfl (lv_at hl 1 rfl) ?_
  have hrc := va_recv hK hP (ci := 0) (q0 := 0) rfl rfl
  refine zc_i (wc := [zO ad f g, zL (ad 6) (ad 7) (ad 8) fln, zA (kk 0) (ad 7) 20 twn, zA (kk 0) (ad 8) 20 fxn]) (wr := []) (w1 := (fun u : Unit => [zO ad f g, zL (ad 6) (ad 7) (ad 8) fln, zA (kk 0) (ad 7) 20 twn, zA (kk 0) (ad 8) 20 fxn])) (rest := []) [0, 1, 2, 3] [] rfl rfl (by decide) (by decide) (by decide) hA hP hD hS (fun hP hD => va_runV (As := [.int p1]) (rest := []) ⟨hx, hb, hml, hown, hts⟩ (metX0_isTown l D kk ad _ f g fln twn fxn p1 _ h) (cwV 1 hts (lw_V q524 q526 qs10 q64 q527) rfl rfl rfl pdX0_isTown ⟨(Nat.le_of_ble_eq_true rfl), (Nat.le_of_ble_eq_true rfl)⟩) (zp_V hK hN hrc hP hD) rfl rfl hl.1 rfl (lv_room (Nat.le_of_ble_eq_true rfl)) dX0_areTwo_2 ⟨(Nat.le_of_ble_eq_true rfl), (Nat.le_of_ble_eq_true rfl)⟩) (fun r_1 u H locs h hP hD hS => ?_)
  try dsimp only at h
  have hP : va_P D vwCl [zO ad f g, zL (ad 6) (ad 7) (ad 8) fln, zA (kk 0) (ad 7) 20 twn, zA (kk 0) (ad 8) 20 fxn] H := hP
  have hD : va_D A [zO ad f g, zL (ad 6) (ad 7) (ad 8) fln, zA (kk 0) (ad 7) 20 twn, zA (kk 0) (ad 8) 20 fxn] := hD
  refine lv_if_eq (tgt := 25) hx hb dX0_areTwo_5 (by decide) (fun c_2 => ?_) (fun c_2 => ?_)
  · have h := h.1 c_2
    refine lv_iconst (v := (0 : Int32)) hx hb dX0_areTwo_25 (by decide) ?_
    exact zr_i hx hb hr hlk rfl hP hD hS () [0, 1, 2, 3] rfl (by decide) dX0_areTwo_26 h
  · have h := h.2 c_2
    refine lv_aload_n hx hb dX0_areTwo_8 rfl (lv_at hl 0 rfl) ?_
    refine lv_iload_n hx hb dX0_areTwo_9 rfl (lv_at hl 2 rfl) ?_
    have hrc := va_recv hK hP (ci := 0) (q0 := 0) rfl rfl
    refine zc_i (wc := [zO ad f g, zL (ad 6) (ad 7) (ad 8) fln, zA (kk 0) (ad 7) 20 twn, zA (kk 0) (ad 8) 20 fxn]) (wr := []) (w1 := (fun u : Unit => [zO ad f g, zL (ad 6) (ad 7) (ad 8) fln, zA (kk 0) (ad 7) 20 twn, zA (kk 0) (ad 8) 20 fxn])) (rest := []) [0, 1, 2, 3] [] rfl rfl (by decide) (by decide) (by decide) hA hP hD hS (fun hP hD => va_runV (As := [.int p2]) (rest := []) ⟨hx, hb, hml, hown, hts⟩ (metX0_isTown l D kk ad _ f g fln twn fxn p2 _ h) (cwV 1 hts (lw_V q524 q526 qs10 q64 q527) rfl rfl rfl pdX0_isTown ⟨(Nat.le_of_ble_eq_true rfl), (Nat.le_of_ble_eq_true rfl)⟩) (zp_V hK hN hrc hP hD) rfl rfl hl.1 rfl (lv_room (Nat.le_of_ble_eq_true rfl)) dX0_areTwo_10 ⟨(Nat.le_of_ble_eq_true rfl), (Nat.le_of_ble_eq_true rfl)⟩) (fun r_3 u H locs h hP hD hS => ?_)
    try dsimp only at h
    have hP : va_P D vwCl [zO ad f g, zL (ad 6) (ad 7) (ad 8) fln, zA (kk 0) (ad 7) 20 twn, zA (kk 0) (ad 8) 20 fxn] H := hP
    have hD : va_D A [zO ad f g, zL (ad 6) (ad 7) (ad 8) fln, zA (kk 0) (ad 7) 20 twn, zA (kk 0) (ad 8) 20 fxn] := hD
    refine lv_if_eq (tgt := 25) hx hb dX0_areTwo_13 (by decide) (fun c_4 => ?_) (fun c_4 => ?_)
    · have h := h.1 c_4
      refine lv_iconst (v := (0 : Int32)) hx hb dX0_areTwo_25 (by decide) ?_
      exact zr_i hx hb hr hlk rfl hP hD hS () [0, 1, 2, 3] rfl (by decide) dX0_areTwo_26 h
    · have h := h.2 c_4
      refine lv_iload_n hx hb dX0_areTwo_16 rfl (lv_at hl 1 rfl) ?_
      refine lv_iload_n hx hb dX0_areTwo_17 rfl (lv_at hl 2 rfl) ?_
      refine lv_icmp_eq (tgt := 25) hx hb dX0_areTwo_18 (by decide) (fun c_5 => ?_) (fun c_5 => ?_)
      · have h := h.1 c_5
        refine lv_iconst (v := (0 : Int32)) hx hb dX0_areTwo_25 (by decide) ?_
        exact zr_i hx hb hr hlk rfl hP hD hS () [0, 1, 2, 3] rfl (by decide) dX0_areTwo_26 h
      · have h := h.2 c_5
        refine lv_iconst (v := (1 : Int32)) hx hb dX0_areTwo_21 (by decide) ?_
        refine lv_goto (tgt := 26) hx hb dX0_areTwo_22 (by decide) ?_
        exact zr_i hx hb hr hlk rfl hP hD hS () [0, 1, 2, 3] rfl (by decide) dX0_areTwo_26 h
def wpX0_rule (fln : Nat → Int32) (twn : Nat → Int32) (p1 : Int32) (Q : Int32 → Prop) : Prop :=
  ((p1 = 0 → Q (fln 0)) ∧ (¬ p1 = 0 → ((p1 = 1 → Q (fln 2)) ∧ (¬ p1 = 1 → ((p1 = 2 → Q (fln 4)) ∧ (¬ p1 = 2 → ((p1 = 3 → (wpX5_next fln (fun r_2 => Q r_2))) ∧ (¬ p1 = 3 → ((p1 = 4 → (wpX5_beaten fln twn (fun r_3 => Q r_3))) ∧ (¬ p1 = 4 → ((p1 = 5 → (wpX5_sumOf fln twn (3 : Int32) (fun r_4 => Q r_4))) ∧ (¬ p1 = 5 → Q (-1 : Int32)))))))))))))
set_option maxHeartbeats 4000000 in
theorem metX0_rule (l : Launch) (D : va_G) (kk : Nat → ClassId) (ad : Nat → Nat) (sz : Nat) (f : Nat → Int32) (g : Nat → Int64) (fln : Nat → Int32) (twn : Nat → Int32) (fxn : Nat → Int32) (p1 : Int32) (Q : Int32 → Prop) (h : wpX0_rule fln twn p1 Q) : Met l yX0_rule (ws_ yX0_rule cX0_rule 2 (some .int)) { frames := 2, cells := 0, slots := 0, locals := 45 } (va_Pc ([.ref (ad 0), .int p1] : List Value) (zPc D kk [zO ad f g, zL (ad 6) (ad 7) (ad 8) fln, zA (kk 0) (ad 7) 20 twn, zA (kk 0) (ad 8) 20 fxn] sz)) (va_Qi (fun (r : Int32) (u : Unit) => Q r ) (zB D (va_A [zO ad f g, zL (ad 6) (ad 7) (ad 8) fln, zA (kk 0) (ad 7) 20 twn, zA (kk 0) (ad 8) 20 fxn] sz) (fun u : Unit => [zO ad f g, zL (ad 6) (ad 7) (ad 8) fln, zA (kk 0) (ad 7) 20 twn, zA (kk 0) (ad 8) 20 fxn])) (va_A [zO ad f g, zL (ad 6) (ad 7) (ad 8) fln, zA (kk 0) (ad 7) 20 twn, zA (kk 0) (ad 8) 20 fxn] sz)) 0 0 (va_A [zO ad f g, zL (ad 6) (ad 7) (ad 8) fln, zA (kk 0) (ad 7) 20 twn, zA (kk 0) (ad 8) 20 fxn] sz) := by
  refine zMet (Qc := fun A => va_Qi (fun (r : Int32) (u : Unit) => Q r ) (zB D A (fun u : Unit => [zO ad f g, zL (ad 6) (ad 7) (ad 8) fln, zA (kk 0) (ad 7) 20 twn, zA (kk 0) (ad 8) 20 fxn])) A) (by decide) (Nat.le_of_ble_eq_true rfl) ?_
  intro p e s m below meth c A X hP hD hS ls hl
  obtain ⟨hx, hb, hr, hml, hown, hts, hlk, hnm, hK, hN, hA⟩ := X
  have hown : s.vm.findClass "LoseLeague" = some m.cls := hown
  have hl : lv_has ls 2 [(0, .ref (ad 0)), (1, .int p1)] := hl
  unfold wpX0_rule at h
  refine lv_iload_n hx hb dX0_rule_0 rfl (lv_at hl 1 rfl) ?_
  by_cases c_1_0 : p1 = 0
  · have h := h.1 c_1_0
    refine lv_tableIn (tgt := 40) hx hb dX0_rule_1 (by rw [c_1_0]; decide) (by rw [c_1_0]; decide) (by rw [c_1_0]; rfl) (by decide) ?_
    refine lv_aload_n hx hb dX0_rule_40 rfl (lv_at hl 0 rfl) ?_
    refine va_get (D := D) (ci := 0) (v := .ref (ad 6)) (C := RX0) (T := TX0) (N := 25) hx hb hts in_X0 hown hK hP 0 rfl rfl 1 (Nat.le_of_ble_eq_true rfl) (hts _ q173) (fun _ h9 => h9) rfl dX0_rule_41 ?_
    refine va_getN (D := D) (ci := 5) (v := .int (fln 0)) (C := RX5) (T := TX5) (N := 6) hx hb hts in_X5 hown hK hP 1 rfl rfl 0 (Nat.le_of_ble_eq_true rfl) (zN_f hN 1 rfl rfl) (fun _ h9 => h9) rfl dX0_rule_44 ?_
    exact zr_i hx hb hr hlk rfl hP hD hS () [0, 1, 2, 3] rfl (by decide) dX0_rule_47 h
  have h := h.2 c_1_0
  have nc_1_0 : ¬ p1.toInt = 0 := lv_neT c_1_0 rfl
  by_cases c_1_1 : p1 = 1
  · have h := h.1 c_1_1
    refine lv_tableIn (tgt := 48) hx hb dX0_rule_1 (by rw [c_1_1]; decide) (by rw [c_1_1]; decide) (by rw [c_1_1]; rfl) (by decide) ?_
    refine lv_aload_n hx hb dX0_rule_48 rfl (lv_at hl 0 rfl) ?_
    refine va_get (D := D) (ci := 0) (v := .ref (ad 6)) (C := RX0) (T := TX0) (N := 25) hx hb hts in_X0 hown hK hP 0 rfl rfl 1 (Nat.le_of_ble_eq_true rfl) (hts _ q173) (fun _ h9 => h9) rfl dX0_rule_49 ?_
    refine va_getN (D := D) (ci := 5) (v := .int (fln 2)) (C := RX5) (T := TX5) (N := 6) hx hb hts in_X5 hown hK hP 1 rfl rfl 2 (Nat.le_of_ble_eq_true rfl) (zN_f hN 2 rfl rfl) (fun _ h9 => h9) rfl dX0_rule_52 ?_
    exact zr_i hx hb hr hlk rfl hP hD hS () [0, 1, 2, 3] rfl (by decide) dX0_rule_55 h
  have h := h.2 c_1_1
  have nc_1_1 : ¬ p1.toInt = 1 := lv_neT c_1_1 rfl
  by_cases c_1_2 : p1 = 2
  · have h := h.1 c_1_2
    refine lv_tableIn (tgt := 56) hx hb dX0_rule_1 (by rw [c_1_2]; decide) (by rw [c_1_2]; decide) (by rw [c_1_2]; rfl) (by decide) ?_
    refine lv_aload_n hx hb dX0_rule_56 rfl (lv_at hl 0 rfl) ?_
    refine va_get (D := D) (ci := 0) (v := .ref (ad 6)) (C := RX0) (T := TX0) (N := 25) hx hb hts in_X0 hown hK hP 0 rfl rfl 1 (Nat.le_of_ble_eq_true rfl) (hts _ q173) (fun _ h9 => h9) rfl dX0_rule_57 ?_
    refine va_getN (D := D) (ci := 5) (v := .int (fln 4)) (C := RX5) (T := TX5) (N := 6) hx hb hts in_X5 hown hK hP 1 rfl rfl 4 (Nat.le_of_ble_eq_true rfl) (zN_f hN 5 rfl rfl) (fun _ h9 => h9) rfl dX0_rule_60 ?_
    exact zr_i hx hb hr hlk rfl hP hD hS () [0, 1, 2, 3] rfl (by decide) dX0_rule_63 h
  have h := h.2 c_1_2
  have nc_1_2 : ¬ p1.toInt = 2 := lv_neT c_1_2 rfl
  by_cases c_1_3 : p1 = 3
  · have h := h.1 c_1_3
    refine lv_tableIn (tgt := 64) hx hb dX0_rule_1 (by rw [c_1_3]; decide) (by rw [c_1_3]; decide) (by rw [c_1_3]; rfl) (by decide) ?_
    refine lv_aload_n hx hb dX0_rule_64 rfl (lv_at hl 0 rfl) ?_
    refine va_get (D := D) (ci := 0) (v := .ref (ad 6)) (C := RX0) (T := TX0) (N := 25) hx hb hts in_X0 hown hK hP 0 rfl rfl 1 (Nat.le_of_ble_eq_true rfl) (hts _ q173) (fun _ h9 => h9) rfl dX0_rule_65 ?_
    have hrc := va_recv hK hP (ci := 5) (q0 := 1) rfl rfl
    refine zc_i (wc := [zL (ad 6) (ad 7) (ad 8) fln, zA (kk 0) (ad 7) 20 twn, zA (kk 0) (ad 8) 20 fxn]) (wr := [zO ad f g]) (w1 := (fun u : Unit => [zL (ad 6) (ad 7) (ad 8) fln, zA (kk 0) (ad 7) 20 twn, zA (kk 0) (ad 8) 20 fxn])) (rest := []) [1, 2, 3] [0] rfl rfl (by decide) (by decide) (by decide) hA hP hD hS (fun hP hD => va_runV (As := []) (rest := []) ⟨hx, hb, hml, hown, hts⟩ (metX5_next l D kk (ad 6) (ad 7) (ad 8) _ fln twn fxn _ h) (cwV 0 hts (lw_V q504 q505 q506 q69 q507) rfl rfl rfl pdX5_next ⟨(Nat.le_of_ble_eq_true rfl), (Nat.le_of_ble_eq_true rfl)⟩) (zp_V hK hN hrc hP hD) rfl rfl hl.1 rfl (lv_room (Nat.le_of_ble_eq_true rfl)) dX0_rule_68 ⟨(Nat.le_of_ble_eq_true rfl), (Nat.le_of_ble_eq_true rfl)⟩) (fun r_2 u H locs h hP hD hS => ?_)
    try dsimp only at h
    have hP : va_P D vwCl [zO ad f g, zL (ad 6) (ad 7) (ad 8) fln, zA (kk 0) (ad 7) 20 twn, zA (kk 0) (ad 8) 20 fxn] H := hP
    have hD : va_D A [zO ad f g, zL (ad 6) (ad 7) (ad 8) fln, zA (kk 0) (ad 7) 20 twn, zA (kk 0) (ad 8) 20 fxn] := hD
    exact zr_i hx hb hr hlk rfl hP hD hS () [0, 1, 2, 3] rfl (by decide) dX0_rule_71 h
  have h := h.2 c_1_3
  have nc_1_3 : ¬ p1.toInt = 3 := lv_neT c_1_3 rfl
  by_cases c_1_4 : p1 = 4
  · have h := h.1 c_1_4
    refine lv_tableIn (tgt := 72) hx hb dX0_rule_1 (by rw [c_1_4]; decide) (by rw [c_1_4]; decide) (by rw [c_1_4]; rfl) (by decide) ?_
    refine lv_aload_n hx hb dX0_rule_72 rfl (lv_at hl 0 rfl) ?_
    refine va_get (D := D) (ci := 0) (v := .ref (ad 6)) (C := RX0) (T := TX0) (N := 25) hx hb hts in_X0 hown hK hP 0 rfl rfl 1 (Nat.le_of_ble_eq_true rfl) (hts _ q173) (fun _ h9 => h9) rfl dX0_rule_73 ?_
    have hrc := va_recv hK hP (ci := 5) (q0 := 1) rfl rfl
    refine zc_i (wc := [zL (ad 6) (ad 7) (ad 8) fln, zA (kk 0) (ad 7) 20 twn, zA (kk 0) (ad 8) 20 fxn]) (wr := [zO ad f g]) (w1 := (fun u : Unit => [zL (ad 6) (ad 7) (ad 8) fln, zA (kk 0) (ad 7) 20 twn, zA (kk 0) (ad 8) 20 fxn])) (rest := []) [1, 2, 3] [0] rfl rfl (by decide) (by decide) (by decide) hA hP hD hS (fun hP hD => va_runV (As := []) (rest := []) ⟨hx, hb, hml, hown, hts⟩ (metX5_beaten l D kk (ad 6) (ad 7) (ad 8) _ fln twn fxn _ h) (cwV 0 hts (lw_V q508 q509 q510 q69 q511) rfl rfl rfl pdX5_beaten ⟨(Nat.le_of_ble_eq_true rfl), (Nat.le_of_ble_eq_true rfl)⟩) (zp_V hK hN hrc hP hD) rfl rfl hl.1 rfl (lv_room (Nat.le_of_ble_eq_true rfl)) dX0_rule_76 ⟨(Nat.le_of_ble_eq_true rfl), (Nat.le_of_ble_eq_true rfl)⟩) (fun r_3 u H locs h hP hD hS => ?_)
    try dsimp only at h
    have hP : va_P D vwCl [zO ad f g, zL (ad 6) (ad 7) (ad 8) fln, zA (kk 0) (ad 7) 20 twn, zA (kk 0) (ad 8) 20 fxn] H := hP
    have hD : va_D A [zO ad f g, zL (ad 6) (ad 7) (ad 8) fln, zA (kk 0) (ad 7) 20 twn, zA (kk 0) (ad 8) 20 fxn] := hD
    exact zr_i hx hb hr hlk rfl hP hD hS () [0, 1, 2, 3] rfl (by decide) dX0_rule_79 h
  have h := h.2 c_1_4
  have nc_1_4 : ¬ p1.toInt = 4 := lv_neT c_1_4 rfl
  by_cases c_1_5 : p1 = 5
  · have h := h.1 c_1_5
    refine lv_tableIn (tgt := 80) hx hb dX0_rule_1 (by rw [c_1_5]; decide) (by rw [c_1_5]; decide) (by rw [c_1_5]; rfl) (by decide) ?_
    refine lv_aload_n hx hb dX0_rule_80 rfl (lv_at hl 0 rfl) ?_
    refine va_get (D := D) (ci := 0) (v := .ref (ad 6)) (C := RX0) (T := TX0) (N := 25) hx hb hts in_X0 hown hK hP 0 rfl rfl 1 (Nat.le_of_ble_eq_true rfl) (hts _ q173) (fun _ h9 => h9) rfl dX0_rule_81 ?_
    refine lv_iconst (v := (3 : Int32)) hx hb dX0_rule_84 (by decide) ?_
    have hrc := va_recv hK hP (ci := 5) (q0 := 1) rfl rfl
    refine zc_i (wc := [zL (ad 6) (ad 7) (ad 8) fln, zA (kk 0) (ad 7) 20 twn, zA (kk 0) (ad 8) 20 fxn]) (wr := [zO ad f g]) (w1 := (fun u : Unit => [zL (ad 6) (ad 7) (ad 8) fln, zA (kk 0) (ad 7) 20 twn, zA (kk 0) (ad 8) 20 fxn])) (rest := []) [1, 2, 3] [0] rfl rfl (by decide) (by decide) (by decide) hA hP hD hS (fun hP hD => va_runV (As := [.int (3 : Int32)]) (rest := []) ⟨hx, hb, hml, hown, hts⟩ (metX5_sumOf l D kk (ad 6) (ad 7) (ad 8) _ fln twn fxn (3 : Int32) _ h) (cwV 1 hts (lw_V q516 q517 q518 q69 q519) rfl rfl rfl pdX5_sumOf ⟨(Nat.le_of_ble_eq_true rfl), (Nat.le_of_ble_eq_true rfl)⟩) (zp_V hK hN hrc hP hD) rfl rfl hl.1 rfl (lv_room (Nat.le_of_ble_eq_true rfl)) dX0_rule_85 ⟨(Nat.le_of_ble_eq_true rfl), (Nat.le_of_ble_eq_true rfl)⟩) (fun r_4 u H locs h hP hD hS => ?_)
    try dsimp only at h
    have hP : va_P D vwCl [zO ad f g, zL (ad 6) (ad 7) (ad 8) fln, zA (kk 0) (ad 7) 20 twn, zA (kk 0) (ad 8) 20 fxn] H := hP
    have hD : va_D A [zO ad f g, zL (ad 6) (ad 7) (ad 8) fln, zA (kk 0) (ad 7) 20 twn, zA (kk 0) (ad 8) 20 fxn] := hD
    exact zr_i hx hb hr hlk rfl hP hD hS () [0, 1, 2, 3] rfl (by decide) dX0_rule_88 h
  have h := h.2 c_1_5
  have nc_1_5 : ¬ p1.toInt = 5 := lv_neT c_1_5 rfl
  refine lv_tableOut (tgt := 89) hx hb dX0_rule_1 (by omega) (by decide) ?_
  refine lv_iconst (v := (-1 : Int32)) hx hb dX0_rule_89 (by decide) ?_
  exact zr_i hx hb hr hlk rfl hP hD hS () [0, 1, 2, 3] rfl (by decide) dX0_rule_90 h
def wpX0_town (fln : Nat → Int32) (twn : Nat → Int32) (p1 : Int32) (p2 : Int32) (Q : Int32 → Prop) : Prop :=
  (wpX0_isTown fln p1 (fun r_1 => ((r_1 = 0 → Q (-1 : Int32)) ∧ (¬ r_1 = 0 → (wpX0_in (p2.toInt64) (0 : Int64) (4 : Int64) (fun r_3 => ((r_3 = 0 → Q (-1 : Int32)) ∧ (¬ r_3 = 0 → (((4 : Int32) ≤ p2 → (wpX0_plays twn p1 (fun r_6 => Q r_6))) ∧ (¬ (4 : Int32) ≤ p2 → (wpX5_of twn p1 p2 (fun r_7 => Q r_7))))))))))))
set_option maxHeartbeats 4000000 in
theorem metX0_town (l : Launch) (D : va_G) (kk : Nat → ClassId) (ad : Nat → Nat) (sz : Nat) (f : Nat → Int32) (g : Nat → Int64) (fln : Nat → Int32) (twn : Nat → Int32) (fxn : Nat → Int32) (p1 : Int32) (p2 : Int32) (Q : Int32 → Prop) (h : wpX0_town fln twn p1 p2 Q) : Met l yX0_town (ws_ yX0_town cX0_town 3 (some .int)) { frames := 4, cells := 0, slots := 0, locals := 89 } (va_Pc ([.ref (ad 0), .int p1, .int p2] : List Value) (zPc D kk [zO ad f g, zQ (kk 4) (ad 1) 4 (zKf ad), zJ (ad 2) 1, zJ (ad 3) 2, zJ (ad 4) 3, zJ (ad 5) 4, zL (ad 6) (ad 7) (ad 8) fln, zA (kk 0) (ad 7) 20 twn, zA (kk 0) (ad 8) 20 fxn] sz)) (va_Qi (fun (r : Int32) (u : Unit) => Q r ) (zB D (va_A [zO ad f g, zQ (kk 4) (ad 1) 4 (zKf ad), zJ (ad 2) 1, zJ (ad 3) 2, zJ (ad 4) 3, zJ (ad 5) 4, zL (ad 6) (ad 7) (ad 8) fln, zA (kk 0) (ad 7) 20 twn, zA (kk 0) (ad 8) 20 fxn] sz) (fun u : Unit => [zO ad f g, zQ (kk 4) (ad 1) 4 (zKf ad), zJ (ad 2) 1, zJ (ad 3) 2, zJ (ad 4) 3, zJ (ad 5) 4, zL (ad 6) (ad 7) (ad 8) fln, zA (kk 0) (ad 7) 20 twn, zA (kk 0) (ad 8) 20 fxn])) (va_A [zO ad f g, zQ (kk 4) (ad 1) 4 (zKf ad), zJ (ad 2) 1, zJ (ad 3) 2, zJ (ad 4) 3, zJ (ad 5) 4, zL (ad 6) (ad 7) (ad 8) fln, zA (kk 0) (ad 7) 20 twn, zA (kk 0) (ad 8) 20 fxn] sz)) 0 0 (va_A [zO ad f g, zQ (kk 4) (ad 1) 4 (zKf ad), zJ (ad 2) 1, zJ (ad 3) 2, zJ (ad 4) 3, zJ (ad 5) 4, zL (ad 6) (ad 7) (ad 8) fln, zA (kk 0) (ad 7) 20 twn, zA (kk 0) (ad 8) 20 fxn] sz) := by
  refine zMet (Qc := fun A => va_Qi (fun (r : Int32) (u : Unit) => Q r ) (zB D A (fun u : Unit => [zO ad f g, zQ (kk 4) (ad 1) 4 (zKf ad), zJ (ad 2) 1, zJ (ad 3) 2, zJ (ad 4) 3, zJ (ad 5) 4, zL (ad 6) (ad 7) (ad 8) fln, zA (kk 0) (ad 7) 20 twn, zA (kk 0) (ad 8) 20 fxn])) A) (by decide) (Nat.le_of_ble_eq_true rfl) ?_
  intro p e s m below meth c A X hP hD hS ls hl
  obtain ⟨hx, hb, hr, hml, hown, hts, hlk, hnm, hK, hN, hA⟩ := X
  have hown : s.vm.findClass "LoseLeague" = some m.cls := hown
  have hl : lv_has ls 3 [(0, .ref (ad 0)), (1, .int p1), (2, .int p2)] := hl
  unfold wpX0_town at h
  refine lv_aload_n hx hb dX0_town_0 rfl (lv_at hl 0 rfl) ?_
  refine lv_iload_n hx hb dX0_town_1 rfl (lv_at hl 1 rfl) ?_
  have hrc := va_recv hK hP (ci := 0) (q0 := 0) rfl rfl
  refine zc_i (wc := [zO ad f g, zL (ad 6) (ad 7) (ad 8) fln, zA (kk 0) (ad 7) 20 twn, zA (kk 0) (ad 8) 20 fxn]) (wr := [zQ (kk 4) (ad 1) 4 (zKf ad), zJ (ad 2) 1, zJ (ad 3) 2, zJ (ad 4) 3, zJ (ad 5) 4]) (w1 := (fun u : Unit => [zO ad f g, zL (ad 6) (ad 7) (ad 8) fln, zA (kk 0) (ad 7) 20 twn, zA (kk 0) (ad 8) 20 fxn])) (rest := []) [0, 6, 7, 8] [1, 2, 3, 4, 5] rfl rfl (by decide) (by decide) (by decide) hA hP hD hS (fun hP hD => va_runV (As := [.int p1]) (rest := []) ⟨hx, hb, hml, hown, hts⟩ (metX0_isTown l D kk ad _ f g fln twn fxn p1 _ h) (cwV 1 hts (lw_V q524 q526 qs10 q64 q527) rfl rfl rfl pdX0_isTown ⟨(Nat.le_of_ble_eq_true rfl), (Nat.le_of_ble_eq_true rfl)⟩) (zp_V hK hN hrc hP hD) rfl rfl hl.1 rfl (lv_room (Nat.le_of_ble_eq_true rfl)) dX0_town_2 ⟨(Nat.le_of_ble_eq_true rfl), (Nat.le_of_ble_eq_true rfl)⟩) (fun r_1 u H locs h hP hD hS => ?_)
  try dsimp only at h
  have hP : va_P D vwCl [zQ (kk 4) (ad 1) 4 (zKf ad), zJ (ad 2) 1, zJ (ad 3) 2, zJ (ad 4) 3, zJ (ad 5) 4, zO ad f g, zL (ad 6) (ad 7) (ad 8) fln, zA (kk 0) (ad 7) 20 twn, zA (kk 0) (ad 8) 20 fxn] H := hP
  have hD : va_D A [zQ (kk 4) (ad 1) 4 (zKf ad), zJ (ad 2) 1, zJ (ad 3) 2, zJ (ad 4) 3, zJ (ad 5) 4, zO ad f g, zL (ad 6) (ad 7) (ad 8) fln, zA (kk 0) (ad 7) 20 twn, zA (kk 0) (ad 8) 20 fxn] := hD
  refine lv_if_eq (tgt := 20) hx hb dX0_town_5 (by decide) (fun c_2 => ?_) (fun c_2 => ?_)
  · have h := h.1 c_2
    refine lv_iconst (v := (-1 : Int32)) hx hb dX0_town_20 (by decide) ?_
    exact zr_i hx hb hr hlk rfl hP hD hS () [5, 0, 1, 2, 3, 4, 6, 7, 8] rfl (by decide) dX0_town_21 h
  · have h := h.2 c_2
    refine lv_iload_n hx hb dX0_town_8 rfl (lv_at hl 2 rfl) ?_
    refine lv_i2l hx hb dX0_town_9 rfl ?_
    refine lv_lconst (v := (0 : Int64)) hx hb dX0_town_10 (by decide) ?_
    refine lv_ldc2 (v := (4 : Int64)) hx hb hown (hts _ q528) dX0_town_11 ?_
    refine zc_i (wc := []) (wr := [zQ (kk 4) (ad 1) 4 (zKf ad), zJ (ad 2) 1, zJ (ad 3) 2, zJ (ad 4) 3, zJ (ad 5) 4, zO ad f g, zL (ad 6) (ad 7) (ad 8) fln, zA (kk 0) (ad 7) 20 twn, zA (kk 0) (ad 8) 20 fxn]) (w1 := (fun u : Unit => [])) (rest := []) [] [0, 1, 2, 3, 4, 5, 6, 7, 8] rfl rfl (by decide) (by decide) (by decide) hA hP hD hS (fun hP hD => va_runS (As := [.long (p2.toInt64), .long (0 : Int64), .long (4 : Int64)]) (rest := []) ⟨hx, hb, hml, hown, hts⟩ (metX0_in l D kk _ (p2.toInt64) (0 : Int64) (4 : Int64) _ h) (va_cwS 3 hts (lw_S q254 q255 q64 q256) rfl rfl rfl pdX0_in.2 ⟨(Nat.le_of_ble_eq_true rfl), (Nat.le_of_ble_eq_true rfl)⟩) (zp_S hK hN hP hD) rfl rfl hl.1 rfl (lv_room (Nat.le_of_ble_eq_true rfl)) dX0_town_14 ⟨(Nat.le_of_ble_eq_true rfl), (Nat.le_of_ble_eq_true rfl)⟩) (fun r_3 u H locs h hP hD hS => ?_)
    try dsimp only at h
    have hP : va_P D vwCl [zQ (kk 4) (ad 1) 4 (zKf ad), zJ (ad 2) 1, zJ (ad 3) 2, zJ (ad 4) 3, zJ (ad 5) 4, zO ad f g, zL (ad 6) (ad 7) (ad 8) fln, zA (kk 0) (ad 7) 20 twn, zA (kk 0) (ad 8) 20 fxn] H := hP
    have hD : va_D A [zQ (kk 4) (ad 1) 4 (zKf ad), zJ (ad 2) 1, zJ (ad 3) 2, zJ (ad 4) 3, zJ (ad 5) 4, zO ad f g, zL (ad 6) (ad 7) (ad 8) fln, zA (kk 0) (ad 7) 20 twn, zA (kk 0) (ad 8) 20 fxn] := hD
    refine lv_if_ne (tgt := 22) hx hb dX0_town_17 (by decide) (fun c_4 => ?_) (fun c_4 => ?_)
    · have h := h.2 c_4
      refine lv_iload_n hx hb dX0_town_22 rfl (lv_at hl 2 rfl) ?_
      refine lv_iconst (v := (4 : Int32)) hx hb dX0_town_23 (by decide) ?_
      refine lv_icmp_ge (tgt := 39) hx hb dX0_town_24 (by decide) (fun c_5 => ?_) (fun c_5 => ?_)
      · have h := h.1 c_5
        refine lv_aload_n hx hb dX0_town_39 rfl (lv_at hl 0 rfl) ?_
        refine lv_aload_n hx hb dX0_town_40 rfl (lv_at hl 0 rfl) ?_
        refine va_get (D := D) (ci := 0) (v := .ref (ad 6)) (C := RX0) (T := TX0) (N := 25) hx hb hts in_X0 hown hK hP 5 rfl rfl 1 (Nat.le_of_ble_eq_true rfl) (hts _ q173) (fun _ h9 => h9) rfl dX0_town_41 ?_
        refine lv_iload_n hx hb dX0_town_44 rfl (lv_at hl 1 rfl) ?_
        have hrc := va_recv hK hP (ci := 0) (q0 := 5) rfl rfl
        refine zc_i (wc := [zO ad f g, zQ (kk 4) (ad 1) 4 (zKf ad), zJ (ad 2) 1, zJ (ad 3) 2, zJ (ad 4) 3, zJ (ad 5) 4, zL (ad 6) (ad 7) (ad 8) fln, zA (kk 0) (ad 7) 20 twn, zA (kk 0) (ad 8) 20 fxn]) (wr := []) (w1 := (fun u : Unit => [zO ad f g, zQ (kk 4) (ad 1) 4 (zKf ad), zJ (ad 2) 1, zJ (ad 3) 2, zJ (ad 4) 3, zJ (ad 5) 4, zL (ad 6) (ad 7) (ad 8) fln, zA (kk 0) (ad 7) 20 twn, zA (kk 0) (ad 8) 20 fxn])) (rest := []) [5, 0, 1, 2, 3, 4, 6, 7, 8] [] rfl rfl (by decide) (by decide) (by decide) hA hP hD hS (fun hP hD => va_runV (As := [.ref (ad 6), .int p1]) (rest := []) ⟨hx, hb, hml, hown, hts⟩ (metX0_plays l D kk ad (ad 6) (ad 7) (ad 8) _ f g fln twn fxn p1 _ h) (cwV 2 hts (lw_V q530 q532 qs11 q64 q533) rfl rfl rfl pdX0_plays ⟨(Nat.le_of_ble_eq_true rfl), (Nat.le_of_ble_eq_true rfl)⟩) (zp_V hK hN hrc hP hD) rfl rfl hl.1 rfl (lv_room (Nat.le_of_ble_eq_true rfl)) dX0_town_45 ⟨(Nat.le_of_ble_eq_true rfl), (Nat.le_of_ble_eq_true rfl)⟩) (fun r_6 u H locs h hP hD hS => ?_)
        try dsimp only at h
        have hP : va_P D vwCl [zO ad f g, zQ (kk 4) (ad 1) 4 (zKf ad), zJ (ad 2) 1, zJ (ad 3) 2, zJ (ad 4) 3, zJ (ad 5) 4, zL (ad 6) (ad 7) (ad 8) fln, zA (kk 0) (ad 7) 20 twn, zA (kk 0) (ad 8) 20 fxn] H := hP
        have hD : va_D A [zO ad f g, zQ (kk 4) (ad 1) 4 (zKf ad), zJ (ad 2) 1, zJ (ad 3) 2, zJ (ad 4) 3, zJ (ad 5) 4, zL (ad 6) (ad 7) (ad 8) fln, zA (kk 0) (ad 7) 20 twn, zA (kk 0) (ad 8) 20 fxn] := hD
        exact zr_i hx hb hr hlk rfl hP hD hS () [0, 1, 2, 3, 4, 5, 6, 7, 8] rfl (by decide) dX0_town_48 h
      · have h := h.2 c_5
        refine lv_aload_n hx hb dX0_town_27 rfl (lv_at hl 0 rfl) ?_
        refine va_get (D := D) (ci := 0) (v := .ref (ad 6)) (C := RX0) (T := TX0) (N := 25) hx hb hts in_X0 hown hK hP 5 rfl rfl 1 (Nat.le_of_ble_eq_true rfl) (hts _ q173) (fun _ h9 => h9) rfl dX0_town_28 ?_
        refine lv_iload_n hx hb dX0_town_31 rfl (lv_at hl 1 rfl) ?_
        refine lv_iload_n hx hb dX0_town_32 rfl (lv_at hl 2 rfl) ?_
        have hrc := va_recv hK hP (ci := 5) (q0 := 6) rfl rfl
        refine zc_i (wc := [zL (ad 6) (ad 7) (ad 8) fln, zA (kk 0) (ad 7) 20 twn, zA (kk 0) (ad 8) 20 fxn]) (wr := [zQ (kk 4) (ad 1) 4 (zKf ad), zJ (ad 2) 1, zJ (ad 3) 2, zJ (ad 4) 3, zJ (ad 5) 4, zO ad f g]) (w1 := (fun u : Unit => [zL (ad 6) (ad 7) (ad 8) fln, zA (kk 0) (ad 7) 20 twn, zA (kk 0) (ad 8) 20 fxn])) (rest := []) [6, 7, 8] [0, 1, 2, 3, 4, 5] rfl rfl (by decide) (by decide) (by decide) hA hP hD hS (fun hP hD => va_runV (As := [.int p1, .int p2]) (rest := []) ⟨hx, hb, hml, hown, hts⟩ (metX5_of l D kk (ad 6) (ad 7) (ad 8) _ fln twn fxn p1 p2 _ h) (cwV 2 hts (lw_V q529 q513 q514 q69 q515) rfl rfl rfl pdX5_of ⟨(Nat.le_of_ble_eq_true rfl), (Nat.le_of_ble_eq_true rfl)⟩) (zp_V hK hN hrc hP hD) rfl rfl hl.1 rfl (lv_room (Nat.le_of_ble_eq_true rfl)) dX0_town_33 ⟨(Nat.le_of_ble_eq_true rfl), (Nat.le_of_ble_eq_true rfl)⟩) (fun r_7 u H locs h hP hD hS => ?_)
        try dsimp only at h
        have hP : va_P D vwCl [zQ (kk 4) (ad 1) 4 (zKf ad), zJ (ad 2) 1, zJ (ad 3) 2, zJ (ad 4) 3, zJ (ad 5) 4, zO ad f g, zL (ad 6) (ad 7) (ad 8) fln, zA (kk 0) (ad 7) 20 twn, zA (kk 0) (ad 8) 20 fxn] H := hP
        have hD : va_D A [zQ (kk 4) (ad 1) 4 (zKf ad), zJ (ad 2) 1, zJ (ad 3) 2, zJ (ad 4) 3, zJ (ad 5) 4, zO ad f g, zL (ad 6) (ad 7) (ad 8) fln, zA (kk 0) (ad 7) 20 twn, zA (kk 0) (ad 8) 20 fxn] := hD
        refine lv_goto (tgt := 48) hx hb dX0_town_36 (by decide) ?_
        exact zr_i hx hb hr hlk rfl hP hD hS () [5, 0, 1, 2, 3, 4, 6, 7, 8] rfl (by decide) dX0_town_48 h
    · have h := h.1 c_4
      refine lv_iconst (v := (-1 : Int32)) hx hb dX0_town_20 (by decide) ?_
      exact zr_i hx hb hr hlk rfl hP hD hS () [5, 0, 1, 2, 3, 4, 6, 7, 8] rfl (by decide) dX0_town_21 h
def wpX0_fixture (fln : Nat → Int32) (fxn : Nat → Int32) (p1 : Int32) (p2 : Int32) (Q : Int32 → Prop) : Prop :=
  (wpX0_in (p1.toInt64) (0 : Int64) (((fln 2) - (1 : Int32)).toInt64) (fun r_1 => ((r_1 = 0 → Q (-1 : Int32)) ∧ (¬ r_1 = 0 → (wpX0_isPart p2 (fun r_3 => ((r_3 = 0 → Q (-1 : Int32)) ∧ (¬ r_3 = 0 → (vp_in (((2 : Int32) * p1) + p2) 20 ∧ Q (fxn (((2 : Int32) * p1) + p2).toNatClampNeg))))))))))
set_option maxHeartbeats 4000000 in
theorem metX0_fixture (l : Launch) (D : va_G) (kk : Nat → ClassId) (ad : Nat → Nat) (sz : Nat) (f : Nat → Int32) (g : Nat → Int64) (fln : Nat → Int32) (twn : Nat → Int32) (fxn : Nat → Int32) (p1 : Int32) (p2 : Int32) (Q : Int32 → Prop) (h : wpX0_fixture fln fxn p1 p2 Q) : Met l yX0_fixture (ws_ yX0_fixture cX0_fixture 3 (some .int)) { frames := 2, cells := 0, slots := 0, locals := 45 } (va_Pc ([.ref (ad 0), .int p1, .int p2] : List Value) (zPc D kk [zO ad f g, zL (ad 6) (ad 7) (ad 8) fln, zA (kk 0) (ad 7) 20 twn, zA (kk 0) (ad 8) 20 fxn] sz)) (va_Qi (fun (r : Int32) (u : Unit) => Q r ) (zB D (va_A [zO ad f g, zL (ad 6) (ad 7) (ad 8) fln, zA (kk 0) (ad 7) 20 twn, zA (kk 0) (ad 8) 20 fxn] sz) (fun u : Unit => [zO ad f g, zL (ad 6) (ad 7) (ad 8) fln, zA (kk 0) (ad 7) 20 twn, zA (kk 0) (ad 8) 20 fxn])) (va_A [zO ad f g, zL (ad 6) (ad 7) (ad 8) fln, zA (kk 0) (ad 7) 20 twn, zA (kk 0) (ad 8) 20 fxn] sz)) 0 0 (va_A [zO ad f g, zL (ad 6) (ad 7) (ad 8) fln, zA (kk 0) (ad 7) 20 twn, zA (kk 0) (ad 8) 20 fxn] sz) := by
  refine zMet (Qc := fun A => va_Qi (fun (r : Int32) (u : Unit) => Q r ) (zB D A (fun u : Unit => [zO ad f g, zL (ad 6) (ad 7) (ad 8) fln, zA (kk 0) (ad 7) 20 twn, zA (kk 0) (ad 8) 20 fxn])) A) (by decide) (Nat.le_of_ble_eq_true rfl) ?_
  intro p e s m below meth c A X hP hD hS ls hl
  obtain ⟨hx, hb, hr, hml, hown, hts, hlk, hnm, hK, hN, hA⟩ := X
  have hown : s.vm.findClass "LoseLeague" = some m.cls := hown
  have hl : lv_has ls 3 [(0, .ref (ad 0)), (1, .int p1), (2, .int p2)] := hl
  unfold wpX0_fixture at h
  refine lv_iload_n hx hb dX0_fixture_0 rfl (lv_at hl 1 rfl) ?_
  refine lv_i2l hx hb dX0_fixture_1 rfl ?_
  refine lv_lconst (v := (0 : Int64)) hx hb dX0_fixture_2 (by decide) ?_
  refine lv_aload_n hx hb dX0_fixture_3 rfl (lv_at hl 0 rfl) ?_
  refine va_get (D := D) (ci := 0) (v := .ref (ad 6)) (C := RX0) (T := TX0) (N := 25) hx hb hts in_X0 hown hK hP 0 rfl rfl 1 (Nat.le_of_ble_eq_true rfl) (hts _ q173) (fun _ h9 => h9) rfl dX0_fixture_4 ?_
  refine va_getN (D := D) (ci := 5) (v := .int (fln 2)) (C := RX5) (T := TX5) (N := 6) hx hb hts in_X5 hown hK hP 1 rfl rfl 2 (Nat.le_of_ble_eq_true rfl) (zN_f hN 2 rfl rfl) (fun _ h9 => h9) rfl dX0_fixture_7 ?_
  refine lv_iconst (v := (1 : Int32)) hx hb dX0_fixture_10 (by decide) ?_
  refine lv_isub hx hb dX0_fixture_11 ?_
  refine lv_i2l hx hb dX0_fixture_12 rfl ?_
  refine zc_i (wc := []) (wr := [zO ad f g, zL (ad 6) (ad 7) (ad 8) fln, zA (kk 0) (ad 7) 20 twn, zA (kk 0) (ad 8) 20 fxn]) (w1 := (fun u : Unit => [])) (rest := []) [] [0, 1, 2, 3] rfl rfl (by decide) (by decide) (by decide) hA hP hD hS (fun hP hD => va_runS (As := [.long (p1.toInt64), .long (0 : Int64), .long (((fln 2) - (1 : Int32)).toInt64)]) (rest := []) ⟨hx, hb, hml, hown, hts⟩ (metX0_in l D kk _ (p1.toInt64) (0 : Int64) (((fln 2) - (1 : Int32)).toInt64) _ h) (va_cwS 3 hts (lw_S q254 q255 q64 q256) rfl rfl rfl pdX0_in.2 ⟨(Nat.le_of_ble_eq_true rfl), (Nat.le_of_ble_eq_true rfl)⟩) (zp_S hK hN hP hD) rfl rfl hl.1 rfl (lv_room (Nat.le_of_ble_eq_true rfl)) dX0_fixture_13 ⟨(Nat.le_of_ble_eq_true rfl), (Nat.le_of_ble_eq_true rfl)⟩) (fun r_1 u H locs h hP hD hS => ?_)
  try dsimp only at h
  have hP : va_P D vwCl [zO ad f g, zL (ad 6) (ad 7) (ad 8) fln, zA (kk 0) (ad 7) 20 twn, zA (kk 0) (ad 8) 20 fxn] H := hP
  have hD : va_D A [zO ad f g, zL (ad 6) (ad 7) (ad 8) fln, zA (kk 0) (ad 7) 20 twn, zA (kk 0) (ad 8) 20 fxn] := hD
  refine lv_if_eq (tgt := 42) hx hb dX0_fixture_16 (by decide) (fun c_2 => ?_) (fun c_2 => ?_)
  · have h := h.1 c_2
    refine lv_iconst (v := (-1 : Int32)) hx hb dX0_fixture_42 (by decide) ?_
    exact zr_i hx hb hr hlk rfl hP hD hS () [0, 1, 2, 3] rfl (by decide) dX0_fixture_43 h
  · have h := h.2 c_2
    refine lv_iload_n hx hb dX0_fixture_19 rfl (lv_at hl 2 rfl) ?_
    refine zc_i (wc := []) (wr := [zO ad f g, zL (ad 6) (ad 7) (ad 8) fln, zA (kk 0) (ad 7) 20 twn, zA (kk 0) (ad 8) 20 fxn]) (w1 := (fun u : Unit => [])) (rest := []) [] [0, 1, 2, 3] rfl rfl (by decide) (by decide) (by decide) hA hP hD hS (fun hP hD => va_runS (As := [.int p2]) (rest := []) ⟨hx, hb, hml, hown, hts⟩ (metX0_isPart l D kk _ p2 _ h) (va_cwS 1 hts (lw_S q556 q557 q64 q558) rfl rfl rfl pdX0_isPart.2 ⟨(Nat.le_of_ble_eq_true rfl), (Nat.le_of_ble_eq_true rfl)⟩) (zp_S hK hN hP hD) rfl rfl hl.1 rfl (lv_room (Nat.le_of_ble_eq_true rfl)) dX0_fixture_20 ⟨(Nat.le_of_ble_eq_true rfl), (Nat.le_of_ble_eq_true rfl)⟩) (fun r_3 u H locs h hP hD hS => ?_)
    try dsimp only at h
    have hP : va_P D vwCl [zO ad f g, zL (ad 6) (ad 7) (ad 8) fln, zA (kk 0) (ad 7) 20 twn, zA (kk 0) (ad 8) 20 fxn] H := hP
    have hD : va_D A [zO ad f g, zL (ad 6) (ad 7) (ad 8) fln, zA (kk 0) (ad 7) 20 twn, zA (kk 0) (ad 8) 20 fxn] := hD
    refine lv_if_eq (tgt := 42) hx hb dX0_fixture_23 (by decide) (fun c_4 => ?_) (fun c_4 => ?_)
    · have h := h.1 c_4
      refine lv_iconst (v := (-1 : Int32)) hx hb dX0_fixture_42 (by decide) ?_
      exact zr_i hx hb hr hlk rfl hP hD hS () [0, 1, 2, 3] rfl (by decide) dX0_fixture_43 h
    · have h := h.2 c_4
      refine lv_aload_n hx hb dX0_fixture_26 rfl (lv_at hl 0 rfl) ?_
      refine va_get (D := D) (ci := 0) (v := .ref (ad 6)) (C := RX0) (T := TX0) (N := 25) hx hb hts in_X0 hown hK hP 0 rfl rfl 1 (Nat.le_of_ble_eq_true rfl) (hts _ q173) (fun _ h9 => h9) rfl dX0_fixture_27 ?_
      refine va_getN (D := D) (ci := 5) (v := .ref (ad 8)) (C := RX5) (T := TX5) (N := 6) hx hb hts in_X5 hown hK hP 1 rfl rfl 3 (Nat.le_of_ble_eq_true rfl) (zN_f hN 4 rfl rfl) (fun _ h9 => h9) rfl dX0_fixture_30 ?_
      refine lv_iconst (v := (2 : Int32)) hx hb dX0_fixture_33 (by decide) ?_
      refine lv_iload_n hx hb dX0_fixture_34 rfl (lv_at hl 1 rfl) ?_
      refine lv_imul hx hb dX0_fixture_35 ?_
      refine lv_iload_n hx hb dX0_fixture_36 rfl (lv_at hl 2 rfl) ?_
      refine lv_iadd hx hb dX0_fixture_37 ?_
      obtain ⟨hin, h⟩ := h
      refine va_bald hx hb hK hP 3 0 rfl rfl hin dX0_fixture_38 ?_
      refine lv_goto (tgt := 43) hx hb dX0_fixture_39 (by decide) ?_
      exact zr_i hx hb hr hlk rfl hP hD hS () [0, 1, 2, 3] rfl (by decide) dX0_fixture_43 h
def wpX0_game (fln : Nat → Int32) (twn : Nat → Int32) (p1 : Int32) (p2 : Int32) (Q : Int32 → Prop) : Prop :=
  (wpX0_areTwo fln p1 p2 (fun r_1 => ((r_1 = 0 → Q (-1 : Int32)) ∧ (¬ r_1 = 0 → (wpX0_loserOf twn p1 p2 (fun r_3 => Q r_3))))))
set_option maxHeartbeats 4000000 in
theorem metX0_game (l : Launch) (D : va_G) (kk : Nat → ClassId) (ad : Nat → Nat) (sz : Nat) (f : Nat → Int32) (g : Nat → Int64) (fln : Nat → Int32) (twn : Nat → Int32) (fxn : Nat → Int32) (p1 : Int32) (p2 : Int32) (Q : Int32 → Prop) (h : wpX0_game fln twn p1 p2 Q) : Met l yX0_game (ws_ yX0_game cX0_game 3 (some .int)) { frames := 5, cells := 0, slots := 0, locals := 113 } (va_Pc ([.ref (ad 0), .int p1, .int p2] : List Value) (zPc D kk [zO ad f g, zQ (kk 4) (ad 1) 4 (zKf ad), zJ (ad 2) 1, zJ (ad 3) 2, zJ (ad 4) 3, zJ (ad 5) 4, zL (ad 6) (ad 7) (ad 8) fln, zA (kk 0) (ad 7) 20 twn, zA (kk 0) (ad 8) 20 fxn] sz)) (va_Qi (fun (r : Int32) (u : Unit) => Q r ) (zB D (va_A [zO ad f g, zQ (kk 4) (ad 1) 4 (zKf ad), zJ (ad 2) 1, zJ (ad 3) 2, zJ (ad 4) 3, zJ (ad 5) 4, zL (ad 6) (ad 7) (ad 8) fln, zA (kk 0) (ad 7) 20 twn, zA (kk 0) (ad 8) 20 fxn] sz) (fun u : Unit => [zO ad f g, zQ (kk 4) (ad 1) 4 (zKf ad), zJ (ad 2) 1, zJ (ad 3) 2, zJ (ad 4) 3, zJ (ad 5) 4, zL (ad 6) (ad 7) (ad 8) fln, zA (kk 0) (ad 7) 20 twn, zA (kk 0) (ad 8) 20 fxn])) (va_A [zO ad f g, zQ (kk 4) (ad 1) 4 (zKf ad), zJ (ad 2) 1, zJ (ad 3) 2, zJ (ad 4) 3, zJ (ad 5) 4, zL (ad 6) (ad 7) (ad 8) fln, zA (kk 0) (ad 7) 20 twn, zA (kk 0) (ad 8) 20 fxn] sz)) 0 0 (va_A [zO ad f g, zQ (kk 4) (ad 1) 4 (zKf ad), zJ (ad 2) 1, zJ (ad 3) 2, zJ (ad 4) 3, zJ (ad 5) 4, zL (ad 6) (ad 7) (ad 8) fln, zA (kk 0) (ad 7) 20 twn, zA (kk 0) (ad 8) 20 fxn] sz) := by
  refine zMet (Qc := fun A => va_Qi (fun (r : Int32) (u : Unit) => Q r ) (zB D A (fun u : Unit => [zO ad f g, zQ (kk 4) (ad 1) 4 (zKf ad), zJ (ad 2) 1, zJ (ad 3) 2, zJ (ad 4) 3, zJ (ad 5) 4, zL (ad 6) (ad 7) (ad 8) fln, zA (kk 0) (ad 7) 20 twn, zA (kk 0) (ad 8) 20 fxn])) A) (by decide) (Nat.le_of_ble_eq_true rfl) ?_
  intro p e s m below meth c A X hP hD hS ls hl
  obtain ⟨hx, hb, hr, hml, hown, hts, hlk, hnm, hK, hN, hA⟩ := X
  have hown : s.vm.findClass "LoseLeague" = some m.cls := hown
  have hl : lv_has ls 3 [(0, .ref (ad 0)), (1, .int p1), (2, .int p2)] := hl
  unfold wpX0_game at h
  refine lv_aload_n hx hb dX0_game_0 rfl (lv_at hl 0 rfl) ?_
  refine lv_iload_n hx hb dX0_game_1 rfl (lv_at hl 1 rfl) ?_
  refine lv_iload_n hx hb dX0_game_2 rfl (lv_at hl 2 rfl) ?_
  have hrc := va_recv hK hP (ci := 0) (q0 := 0) rfl rfl
  refine zc_i (wc := [zO ad f g, zL (ad 6) (ad 7) (ad 8) fln, zA (kk 0) (ad 7) 20 twn, zA (kk 0) (ad 8) 20 fxn]) (wr := [zQ (kk 4) (ad 1) 4 (zKf ad), zJ (ad 2) 1, zJ (ad 3) 2, zJ (ad 4) 3, zJ (ad 5) 4]) (w1 := (fun u : Unit => [zO ad f g, zL (ad 6) (ad 7) (ad 8) fln, zA (kk 0) (ad 7) 20 twn, zA (kk 0) (ad 8) 20 fxn])) (rest := []) [0, 6, 7, 8] [1, 2, 3, 4, 5] rfl rfl (by decide) (by decide) (by decide) hA hP hD hS (fun hP hD => va_runV (As := [.int p1, .int p2]) (rest := []) ⟨hx, hb, hml, hown, hts⟩ (metX0_areTwo l D kk ad _ f g fln twn fxn p1 p2 _ h) (cwV 2 hts (lw_V q563 q565 qs12 q64 q566) rfl rfl rfl pdX0_areTwo ⟨(Nat.le_of_ble_eq_true rfl), (Nat.le_of_ble_eq_true rfl)⟩) (zp_V hK hN hrc hP hD) rfl rfl hl.1 rfl (lv_room (Nat.le_of_ble_eq_true rfl)) dX0_game_3 ⟨(Nat.le_of_ble_eq_true rfl), (Nat.le_of_ble_eq_true rfl)⟩) (fun r_1 u H locs h hP hD hS => ?_)
  try dsimp only at h
  have hP : va_P D vwCl [zQ (kk 4) (ad 1) 4 (zKf ad), zJ (ad 2) 1, zJ (ad 3) 2, zJ (ad 4) 3, zJ (ad 5) 4, zO ad f g, zL (ad 6) (ad 7) (ad 8) fln, zA (kk 0) (ad 7) 20 twn, zA (kk 0) (ad 8) 20 fxn] H := hP
  have hD : va_D A [zQ (kk 4) (ad 1) 4 (zKf ad), zJ (ad 2) 1, zJ (ad 3) 2, zJ (ad 4) 3, zJ (ad 5) 4, zO ad f g, zL (ad 6) (ad 7) (ad 8) fln, zA (kk 0) (ad 7) 20 twn, zA (kk 0) (ad 8) 20 fxn] := hD
  refine lv_if_eq (tgt := 22) hx hb dX0_game_6 (by decide) (fun c_2 => ?_) (fun c_2 => ?_)
  · have h := h.1 c_2
    refine lv_iconst (v := (-1 : Int32)) hx hb dX0_game_22 (by decide) ?_
    exact zr_i hx hb hr hlk rfl hP hD hS () [5, 0, 1, 2, 3, 4, 6, 7, 8] rfl (by decide) dX0_game_23 h
  · have h := h.2 c_2
    refine lv_aload_n hx hb dX0_game_9 rfl (lv_at hl 0 rfl) ?_
    refine lv_aload_n hx hb dX0_game_10 rfl (lv_at hl 0 rfl) ?_
    refine va_get (D := D) (ci := 0) (v := .ref (ad 6)) (C := RX0) (T := TX0) (N := 25) hx hb hts in_X0 hown hK hP 5 rfl rfl 1 (Nat.le_of_ble_eq_true rfl) (hts _ q173) (fun _ h9 => h9) rfl dX0_game_11 ?_
    refine lv_iload_n hx hb dX0_game_14 rfl (lv_at hl 1 rfl) ?_
    refine lv_iload_n hx hb dX0_game_15 rfl (lv_at hl 2 rfl) ?_
    have hrc := va_recv hK hP (ci := 0) (q0 := 5) rfl rfl
    refine zc_i (wc := [zO ad f g, zQ (kk 4) (ad 1) 4 (zKf ad), zJ (ad 2) 1, zJ (ad 3) 2, zJ (ad 4) 3, zJ (ad 5) 4, zL (ad 6) (ad 7) (ad 8) fln, zA (kk 0) (ad 7) 20 twn, zA (kk 0) (ad 8) 20 fxn]) (wr := []) (w1 := (fun u : Unit => [zO ad f g, zQ (kk 4) (ad 1) 4 (zKf ad), zJ (ad 2) 1, zJ (ad 3) 2, zJ (ad 4) 3, zJ (ad 5) 4, zL (ad 6) (ad 7) (ad 8) fln, zA (kk 0) (ad 7) 20 twn, zA (kk 0) (ad 8) 20 fxn])) (rest := []) [5, 0, 1, 2, 3, 4, 6, 7, 8] [] rfl rfl (by decide) (by decide) (by decide) hA hP hD hS (fun hP hD => va_runV (As := [.ref (ad 6), .int p1, .int p2]) (rest := []) ⟨hx, hb, hml, hown, hts⟩ (metX0_loserOf l D kk ad (ad 6) (ad 7) (ad 8) _ f g fln twn fxn p1 p2 _ h) (cwV 3 hts (lw_V q567 q569 qs13 q64 q570) rfl rfl rfl pdX0_loserOf ⟨(Nat.le_of_ble_eq_true rfl), (Nat.le_of_ble_eq_true rfl)⟩) (zp_V hK hN hrc hP hD) rfl rfl hl.1 rfl (lv_room (Nat.le_of_ble_eq_true rfl)) dX0_game_16 ⟨(Nat.le_of_ble_eq_true rfl), (Nat.le_of_ble_eq_true rfl)⟩) (fun r_3 u H locs h hP hD hS => ?_)
    try dsimp only at h
    have hP : va_P D vwCl [zO ad f g, zQ (kk 4) (ad 1) 4 (zKf ad), zJ (ad 2) 1, zJ (ad 3) 2, zJ (ad 4) 3, zJ (ad 5) 4, zL (ad 6) (ad 7) (ad 8) fln, zA (kk 0) (ad 7) 20 twn, zA (kk 0) (ad 8) 20 fxn] H := hP
    have hD : va_D A [zO ad f g, zQ (kk 4) (ad 1) 4 (zKf ad), zJ (ad 2) 1, zJ (ad 3) 2, zJ (ad 4) 3, zJ (ad 5) 4, zL (ad 6) (ad 7) (ad 8) fln, zA (kk 0) (ad 7) 20 twn, zA (kk 0) (ad 8) 20 fxn] := hD
    refine lv_goto (tgt := 23) hx hb dX0_game_19 (by decide) ?_
    exact zr_i hx hb hr hlk rfl hP hD hS () [0, 1, 2, 3, 4, 5, 6, 7, 8] rfl (by decide) dX0_game_23 h
def wpX0_alter_20 (fln : Nat → Int32) (p1 : Int32) (p2 : Int32) (p3 : Int32) (Q : Int32 → (Nat → Int32) → Prop) (twn : Nat → Int32) (s0 : Int32) : Prop :=
  (wpX0_isTown fln p1 (fun r_1 => ((r_1 = 0 → Q (-1 : Int32) twn) ∧ (¬ r_1 = 0 → (wpX0_in (p2.toInt64) (0 : Int64) (3 : Int64) (fun r_3 => ((r_3 = 0 → Q (-1 : Int32) twn) ∧ (¬ r_3 = 0 → (wpX0_in (p3.toInt64) (0 : Int64) (s0.toInt64) (fun r_5 => ((r_5 = 0 → Q (-1 : Int32) twn) ∧ (¬ r_5 = 0 → (wpX5_of twn p1 p2 (fun r_7 => (wpX5_becomes twn p1 p2 p3 (fun twn_9 => Q r_7 twn_9))))))))))))))))
def wpX0_alter (fln : Nat → Int32) (twn : Nat → Int32) (p1 : Int32) (p2 : Int32) (p3 : Int32) (Q : Int32 → (Nat → Int32) → Prop) : Prop :=
  ((p2 = 0 → wpX0_alter_20 fln p1 p2 p3 Q  twn (3 : Int32)) ∧ (¬ p2 = 0 → ((p2 = (1 : Int32) → wpX0_alter_20 fln p1 p2 p3 Q  twn (20 : Int32)) ∧ (¬ p2 = (1 : Int32) → wpX0_alter_20 fln p1 p2 p3 Q  twn (99 : Int32)))))
set_option maxHeartbeats 4000000 in
theorem metX0_alter (l : Launch) (D : va_G) (kk : Nat → ClassId) (ad : Nat → Nat) (sz : Nat) (f : Nat → Int32) (g : Nat → Int64) (fln : Nat → Int32) (twn : Nat → Int32) (fxn : Nat → Int32) (p1 : Int32) (p2 : Int32) (p3 : Int32) (Q : Int32 → (Nat → Int32) → Prop) (h : wpX0_alter fln twn p1 p2 p3 Q) : Met l yX0_alter (ws_ yX0_alter cX0_alter 6 (some .int)) { frames := 2, cells := 0, slots := 0, locals := 46 } (va_Pc ([.ref (ad 0), .int p1, .int p2, .int p3] : List Value) (zPc D kk [zO ad f g, zL (ad 6) (ad 7) (ad 8) fln, zA (kk 0) (ad 7) 20 twn, zA (kk 0) (ad 8) 20 fxn] sz)) (va_Qi (fun (r : Int32) (u : (Nat → Int32)) => Q r u) (zB D (va_A [zO ad f g, zL (ad 6) (ad 7) (ad 8) fln, zA (kk 0) (ad 7) 20 twn, zA (kk 0) (ad 8) 20 fxn] sz) (fun u : (Nat → Int32) => [zO ad f g, zL (ad 6) (ad 7) (ad 8) fln, zA (kk 0) (ad 7) 20 u, zA (kk 0) (ad 8) 20 fxn])) (va_A [zO ad f g, zL (ad 6) (ad 7) (ad 8) fln, zA (kk 0) (ad 7) 20 twn, zA (kk 0) (ad 8) 20 fxn] sz)) 0 0 (va_A [zO ad f g, zL (ad 6) (ad 7) (ad 8) fln, zA (kk 0) (ad 7) 20 twn, zA (kk 0) (ad 8) 20 fxn] sz) := by
  refine zMet (Qc := fun A => va_Qi (fun (r : Int32) (u : (Nat → Int32)) => Q r u) (zB D A (fun u : (Nat → Int32) => [zO ad f g, zL (ad 6) (ad 7) (ad 8) fln, zA (kk 0) (ad 7) 20 u, zA (kk 0) (ad 8) 20 fxn])) A) (by decide) (Nat.le_of_ble_eq_true rfl) ?_
  intro p e s m below meth c A X hP hD hS ls hl
  obtain ⟨hx, hb, hr, hml, hown, hts, hlk, hnm, hK, hN, hA⟩ := X
  have hown : s.vm.findClass "LoseLeague" = some m.cls := hown
  have hl : lv_has ls 6 [(0, .ref (ad 0)), (1, .int p1), (2, .int p2), (3, .int p3)] := hl
  unfold wpX0_alter at h
  refine lv_iload_n hx hb dX0_alter_0 rfl (lv_at hl 2 rfl) ?_
  have cut_20 : ∀ (twn : Nat → Int32) (s0 : Int32), wpX0_alter_20 fln p1 p2 p3 Q  twn s0 → ∀ (H : Heap) (locs : List Loc), va_P D vwCl [zO ad f g, zL (ad 6) (ad 7) (ad 8) fln, zA (kk 0) (ad 7) 20 twn, zA (kk 0) (ad 8) 20 fxn] H → va_D A [zO ad f g, zL (ad 6) (ad 7) (ad 8) fln, zA (kk 0) (ad 7) 20 twn, zA (kk 0) (ad 8) 20 fxn] → va_S A s.heap H locs → ∀ ls : Array Slot, lv_has ls 6 [(0, .ref (ad 0)), (1, .int p1), (2, .int p2), (3, .int p3)] → W p l e { frames := 2, cells := 0, slots := 0, locals := 46 } s m ([.ref (ad 0), .int p1, .int p2, .int p3] : List Value).toArray below meth c H locs 0 0 (MQ below (va_Qi (fun (r : Int32) (u : (Nat → Int32)) => Q r u) (zB D A (fun u : (Nat → Int32) => [zO ad f g, zL (ad 6) (ad 7) (ad 8) fln, zA (kk 0) (ad 7) 20 u, zA (kk 0) (ad 8) 20 fxn])) A) ([.ref (ad 0), .int p1, .int p2, .int p3] : List Value).toArray s 0 0 A) (F0 m 20 ls [.int s0]) := by
    intro twn s0 h H locs hP hD hS ls hl
    unfold wpX0_alter_20 at h
    refine lv_istore (lv' := [(4, .int s0), (0, .ref (ad 0)), (1, .int p1), (2, .int p2), (3, .int p3)]) hx hb dX0_alter_20 hl (by decide) rfl (fun ls hl => ?_)
    refine lv_aload_n hx hb dX0_alter_22 rfl (lv_at hl 1 rfl) ?_
    refine lv_iload_n hx hb dX0_alter_23 rfl (lv_at hl 2 rfl) ?_
    have hrc := va_recv hK hP (ci := 0) (q0 := 0) rfl rfl
    refine zc_i (wc := [zO ad f g, zL (ad 6) (ad 7) (ad 8) fln, zA (kk 0) (ad 7) 20 twn, zA (kk 0) (ad 8) 20 fxn]) (wr := []) (w1 := (fun u : Unit => [zO ad f g, zL (ad 6) (ad 7) (ad 8) fln, zA (kk 0) (ad 7) 20 twn, zA (kk 0) (ad 8) 20 fxn])) (rest := []) [0, 1, 2, 3] [] rfl rfl (by decide) (by decide) (by decide) hA hP hD hS (fun hP hD => va_runV (As := [.int p1]) (rest := []) ⟨hx, hb, hml, hown, hts⟩ (metX0_isTown l D kk ad _ f g fln twn fxn p1 _ h) (cwV 1 hts (lw_V q524 q526 qs10 q64 q527) rfl rfl rfl pdX0_isTown ⟨(Nat.le_of_ble_eq_true rfl), (Nat.le_of_ble_eq_true rfl)⟩) (zp_V hK hN hrc hP hD) rfl rfl hl.1 rfl (lv_room (Nat.le_of_ble_eq_true rfl)) dX0_alter_24 ⟨(Nat.le_of_ble_eq_true rfl), (Nat.le_of_ble_eq_true rfl)⟩) (fun r_1 u H locs h hP hD hS => ?_)
    try dsimp only at h
    have hP : va_P D vwCl [zO ad f g, zL (ad 6) (ad 7) (ad 8) fln, zA (kk 0) (ad 7) 20 twn, zA (kk 0) (ad 8) 20 fxn] H := hP
    have hD : va_D A [zO ad f g, zL (ad 6) (ad 7) (ad 8) fln, zA (kk 0) (ad 7) 20 twn, zA (kk 0) (ad 8) 20 fxn] := hD
    refine lv_if_eq (tgt := 54) hx hb dX0_alter_27 (by decide) (fun c_2 => ?_) (fun c_2 => ?_)
    · have h := h.1 c_2
      refine lv_iconst (v := (-1 : Int32)) hx hb dX0_alter_54 (by decide) ?_
      exact zr_i hx hb hr hlk rfl hP hD hS (twn) [0, 1, 2, 3] rfl (by decide) dX0_alter_55 h
    · have h := h.2 c_2
      refine lv_iload_n hx hb dX0_alter_30 rfl (lv_at hl 3 rfl) ?_
      refine lv_i2l hx hb dX0_alter_31 rfl ?_
      refine lv_lconst (v := (0 : Int64)) hx hb dX0_alter_32 (by decide) ?_
      refine lv_ldc2 (v := (3 : Int64)) hx hb hown (hts _ q575) dX0_alter_33 ?_
      refine zc_i (wc := []) (wr := [zO ad f g, zL (ad 6) (ad 7) (ad 8) fln, zA (kk 0) (ad 7) 20 twn, zA (kk 0) (ad 8) 20 fxn]) (w1 := (fun u : Unit => [])) (rest := []) [] [0, 1, 2, 3] rfl rfl (by decide) (by decide) (by decide) hA hP hD hS (fun hP hD => va_runS (As := [.long (p2.toInt64), .long (0 : Int64), .long (3 : Int64)]) (rest := []) ⟨hx, hb, hml, hown, hts⟩ (metX0_in l D kk _ (p2.toInt64) (0 : Int64) (3 : Int64) _ h) (va_cwS 3 hts (lw_S q254 q255 q64 q256) rfl rfl rfl pdX0_in.2 ⟨(Nat.le_of_ble_eq_true rfl), (Nat.le_of_ble_eq_true rfl)⟩) (zp_S hK hN hP hD) rfl rfl hl.1 rfl (lv_room (Nat.le_of_ble_eq_true rfl)) dX0_alter_36 ⟨(Nat.le_of_ble_eq_true rfl), (Nat.le_of_ble_eq_true rfl)⟩) (fun r_3 u H locs h hP hD hS => ?_)
      try dsimp only at h
      have hP : va_P D vwCl [zO ad f g, zL (ad 6) (ad 7) (ad 8) fln, zA (kk 0) (ad 7) 20 twn, zA (kk 0) (ad 8) 20 fxn] H := hP
      have hD : va_D A [zO ad f g, zL (ad 6) (ad 7) (ad 8) fln, zA (kk 0) (ad 7) 20 twn, zA (kk 0) (ad 8) 20 fxn] := hD
      refine lv_if_eq (tgt := 54) hx hb dX0_alter_39 (by decide) (fun c_4 => ?_) (fun c_4 => ?_)
      · have h := h.1 c_4
        refine lv_iconst (v := (-1 : Int32)) hx hb dX0_alter_54 (by decide) ?_
        exact zr_i hx hb hr hlk rfl hP hD hS (twn) [0, 1, 2, 3] rfl (by decide) dX0_alter_55 h
      · have h := h.2 c_4
        refine lv_iload_n hx hb dX0_alter_42 rfl (lv_at hl 4 rfl) ?_
        refine lv_i2l hx hb dX0_alter_43 rfl ?_
        refine lv_lconst (v := (0 : Int64)) hx hb dX0_alter_44 (by decide) ?_
        refine lv_iload hx hb dX0_alter_45 (lv_at hl 0 rfl) ?_
        refine lv_i2l hx hb dX0_alter_47 rfl ?_
        refine zc_i (wc := []) (wr := [zO ad f g, zL (ad 6) (ad 7) (ad 8) fln, zA (kk 0) (ad 7) 20 twn, zA (kk 0) (ad 8) 20 fxn]) (w1 := (fun u : Unit => [])) (rest := []) [] [0, 1, 2, 3] rfl rfl (by decide) (by decide) (by decide) hA hP hD hS (fun hP hD => va_runS (As := [.long (p3.toInt64), .long (0 : Int64), .long (s0.toInt64)]) (rest := []) ⟨hx, hb, hml, hown, hts⟩ (metX0_in l D kk _ (p3.toInt64) (0 : Int64) (s0.toInt64) _ h) (va_cwS 3 hts (lw_S q254 q255 q64 q256) rfl rfl rfl pdX0_in.2 ⟨(Nat.le_of_ble_eq_true rfl), (Nat.le_of_ble_eq_true rfl)⟩) (zp_S hK hN hP hD) rfl rfl hl.1 rfl (lv_room (Nat.le_of_ble_eq_true rfl)) dX0_alter_48 ⟨(Nat.le_of_ble_eq_true rfl), (Nat.le_of_ble_eq_true rfl)⟩) (fun r_5 u H locs h hP hD hS => ?_)
        try dsimp only at h
        have hP : va_P D vwCl [zO ad f g, zL (ad 6) (ad 7) (ad 8) fln, zA (kk 0) (ad 7) 20 twn, zA (kk 0) (ad 8) 20 fxn] H := hP
        have hD : va_D A [zO ad f g, zL (ad 6) (ad 7) (ad 8) fln, zA (kk 0) (ad 7) 20 twn, zA (kk 0) (ad 8) 20 fxn] := hD
        refine lv_if_ne (tgt := 56) hx hb dX0_alter_51 (by decide) (fun c_6 => ?_) (fun c_6 => ?_)
        · have h := h.2 c_6
          refine lv_aload_n hx hb dX0_alter_56 rfl (lv_at hl 1 rfl) ?_
          refine va_get (D := D) (ci := 0) (v := .ref (ad 6)) (C := RX0) (T := TX0) (N := 25) hx hb hts in_X0 hown hK hP 0 rfl rfl 1 (Nat.le_of_ble_eq_true rfl) (hts _ q173) (fun _ h9 => h9) rfl dX0_alter_57 ?_
          refine lv_iload_n hx hb dX0_alter_60 rfl (lv_at hl 2 rfl) ?_
          refine lv_iload_n hx hb dX0_alter_61 rfl (lv_at hl 3 rfl) ?_
          have hrc := va_recv hK hP (ci := 5) (q0 := 1) rfl rfl
          refine zc_i (wc := [zL (ad 6) (ad 7) (ad 8) fln, zA (kk 0) (ad 7) 20 twn, zA (kk 0) (ad 8) 20 fxn]) (wr := [zO ad f g]) (w1 := (fun u : Unit => [zL (ad 6) (ad 7) (ad 8) fln, zA (kk 0) (ad 7) 20 twn, zA (kk 0) (ad 8) 20 fxn])) (rest := []) [1, 2, 3] [0] rfl rfl (by decide) (by decide) (by decide) hA hP hD hS (fun hP hD => va_runV (As := [.int p1, .int p2]) (rest := []) ⟨hx, hb, hml, hown, hts⟩ (metX5_of l D kk (ad 6) (ad 7) (ad 8) _ fln twn fxn p1 p2 _ h) (cwV 2 hts (lw_V q529 q513 q514 q69 q515) rfl rfl rfl pdX5_of ⟨(Nat.le_of_ble_eq_true rfl), (Nat.le_of_ble_eq_true rfl)⟩) (zp_V hK hN hrc hP hD) rfl rfl hl.1 rfl (lv_room (Nat.le_of_ble_eq_true rfl)) dX0_alter_62 ⟨(Nat.le_of_ble_eq_true rfl), (Nat.le_of_ble_eq_true rfl)⟩) (fun r_7 u H locs h hP hD hS => ?_)
          try dsimp only at h
          have hP : va_P D vwCl [zO ad f g, zL (ad 6) (ad 7) (ad 8) fln, zA (kk 0) (ad 7) 20 twn, zA (kk 0) (ad 8) 20 fxn] H := hP
          have hD : va_D A [zO ad f g, zL (ad 6) (ad 7) (ad 8) fln, zA (kk 0) (ad 7) 20 twn, zA (kk 0) (ad 8) 20 fxn] := hD
          refine lv_istore (lv' := [(5, .int r_7), (4, .int s0), (0, .ref (ad 0)), (1, .int p1), (2, .int p2), (3, .int p3)]) hx hb dX0_alter_65 hl (by decide) rfl (fun ls hl => ?_)
          refine lv_aload_n hx hb dX0_alter_67 rfl (lv_at hl 2 rfl) ?_
          refine va_get (D := D) (ci := 0) (v := .ref (ad 6)) (C := RX0) (T := TX0) (N := 25) hx hb hts in_X0 hown hK hP 0 rfl rfl 1 (Nat.le_of_ble_eq_true rfl) (hts _ q173) (fun _ h9 => h9) rfl dX0_alter_68 ?_
          refine lv_iload_n hx hb dX0_alter_71 rfl (lv_at hl 3 rfl) ?_
          refine lv_iload_n hx hb dX0_alter_72 rfl (lv_at hl 4 rfl) ?_
          refine lv_iload_n hx hb dX0_alter_73 rfl (lv_at hl 5 rfl) ?_
          have hrc := va_recv hK hP (ci := 5) (q0 := 1) rfl rfl
          refine zc_v (wc := [zL (ad 6) (ad 7) (ad 8) fln, zA (kk 0) (ad 7) 20 twn, zA (kk 0) (ad 8) 20 fxn]) (wr := [zO ad f g]) (w1 := (fun u : (Nat → Int32) => [zL (ad 6) (ad 7) (ad 8) fln, zA (kk 0) (ad 7) 20 u, zA (kk 0) (ad 8) 20 fxn])) (rest := []) [1, 2, 3] [0] rfl rfl (by decide) (by decide) (by decide) hA hP hD hS (fun hP hD => va_runV (As := [.int p1, .int p2, .int p3]) (rest := []) ⟨hx, hb, hml, hown, hts⟩ (metX5_becomes l D kk (ad 6) (ad 7) (ad 8) _ fln twn fxn p1 p2 p3 _ h) (cwV 3 hts (lw_V q576 q486 q487 q69 q488) rfl rfl rfl pdX5_becomes ⟨(Nat.le_of_ble_eq_true rfl), (Nat.le_of_ble_eq_true rfl)⟩) (zp_V hK hN hrc hP hD) rfl rfl hl.1 rfl (lv_room (Nat.le_of_ble_eq_true rfl)) dX0_alter_74 ⟨(Nat.le_of_ble_eq_true rfl), (Nat.le_of_ble_eq_true rfl)⟩) (fun u H locs h hP hD hS => ?_)
          obtain ⟨twn_9, rfl⟩ : ∃ z, z = u := ⟨_, rfl⟩
          try dsimp only at h
          have hP : va_P D vwCl [zO ad f g, zL (ad 6) (ad 7) (ad 8) fln, zA (kk 0) (ad 7) 20 twn_9, zA (kk 0) (ad 8) 20 fxn] H := hP
          have hD : va_D A [zO ad f g, zL (ad 6) (ad 7) (ad 8) fln, zA (kk 0) (ad 7) 20 twn_9, zA (kk 0) (ad 8) 20 fxn] := hD
          refine lv_iload hx hb dX0_alter_77 (lv_at hl 0 rfl) ?_
          exact zr_i hx hb hr hlk rfl hP hD hS (twn_9) [0, 1, 2, 3] rfl (by decide) dX0_alter_79 h
        · have h := h.1 c_6
          refine lv_iconst (v := (-1 : Int32)) hx hb dX0_alter_54 (by decide) ?_
          exact zr_i hx hb hr hlk rfl hP hD hS (twn) [0, 1, 2, 3] rfl (by decide) dX0_alter_55 h
  refine lv_if_ne (tgt := 8) hx hb dX0_alter_1 (by decide) (fun c_10 => ?_) (fun c_10 => ?_)
  · have h := h.2 c_10
    refine lv_iload_n hx hb dX0_alter_8 rfl (lv_at hl 2 rfl) ?_
    refine lv_iconst (v := (1 : Int32)) hx hb dX0_alter_9 (by decide) ?_
    refine lv_icmp_ne (tgt := 18) hx hb dX0_alter_10 (by decide) (fun c_11 => ?_) (fun c_11 => ?_)
    · have h := h.2 c_11
      refine lv_bipush (v := (99 : Int32)) hx hb dX0_alter_18 (by decide) ?_
      exact cut_20 twn (99 : Int32) h _ _ hP hD hS _ (lv_sub hl [0, 1, 2, 3] rfl)
    · have h := h.1 c_11
      refine lv_bipush (v := (20 : Int32)) hx hb dX0_alter_13 (by decide) ?_
      refine lv_goto (tgt := 20) hx hb dX0_alter_15 (by decide) ?_
      exact cut_20 twn (20 : Int32) h _ _ hP hD hS _ (lv_sub hl [0, 1, 2, 3] rfl)
  · have h := h.1 c_10
    refine lv_iconst (v := (3 : Int32)) hx hb dX0_alter_4 (by decide) ?_
    refine lv_goto (tgt := 20) hx hb dX0_alter_5 (by decide) ?_
    exact cut_20 twn (3 : Int32) h _ _ hP hD hS _ (lv_sub hl [0, 1, 2, 3] rfl)
def wpX0_whyNot (twn : Nat → Int32) (p1 : Int32) (p2 : Int32) (p3 : Int32) (Q : Int32 → Prop) : Prop :=
  (wpX5_of twn p1 (1 : Int32) (fun r_1 => ((p3 ≤ r_1 → (wpX5_of twn p2 (1 : Int32) (fun r_3 => (((r_3 + p3) ≤ (20 : Int32) → Q (0 : Int32)) ∧ (¬ (r_3 + p3) ≤ (20 : Int32) → Q (-3 : Int32)))))) ∧ (¬ p3 ≤ r_1 → Q (-2 : Int32)))))
set_option maxHeartbeats 4000000 in
theorem metX0_whyNot (l : Launch) (D : va_G) (kk : Nat → ClassId) (ad : Nat → Nat) (sz : Nat) (f : Nat → Int32) (g : Nat → Int64) (fln : Nat → Int32) (twn : Nat → Int32) (fxn : Nat → Int32) (p1 : Int32) (p2 : Int32) (p3 : Int32) (Q : Int32 → Prop) (h : wpX0_whyNot twn p1 p2 p3 Q) : Met l yX0_whyNot (ws_ yX0_whyNot cX0_whyNot 4 (some .int)) { frames := 1, cells := 0, slots := 0, locals := 22 } (va_Pc ([.ref (ad 0), .int p1, .int p2, .int p3] : List Value) (zPc D kk [zO ad f g, zL (ad 6) (ad 7) (ad 8) fln, zA (kk 0) (ad 7) 20 twn, zA (kk 0) (ad 8) 20 fxn] sz)) (va_Qi (fun (r : Int32) (u : Unit) => Q r ) (zB D (va_A [zO ad f g, zL (ad 6) (ad 7) (ad 8) fln, zA (kk 0) (ad 7) 20 twn, zA (kk 0) (ad 8) 20 fxn] sz) (fun u : Unit => [zO ad f g, zL (ad 6) (ad 7) (ad 8) fln, zA (kk 0) (ad 7) 20 twn, zA (kk 0) (ad 8) 20 fxn])) (va_A [zO ad f g, zL (ad 6) (ad 7) (ad 8) fln, zA (kk 0) (ad 7) 20 twn, zA (kk 0) (ad 8) 20 fxn] sz)) 0 0 (va_A [zO ad f g, zL (ad 6) (ad 7) (ad 8) fln, zA (kk 0) (ad 7) 20 twn, zA (kk 0) (ad 8) 20 fxn] sz) := by
  refine zMet (Qc := fun A => va_Qi (fun (r : Int32) (u : Unit) => Q r ) (zB D A (fun u : Unit => [zO ad f g, zL (ad 6) (ad 7) (ad 8) fln, zA (kk 0) (ad 7) 20 twn, zA (kk 0) (ad 8) 20 fxn])) A) (by decide) (Nat.le_of_ble_eq_true rfl) ?_
  intro p e s m below meth c A X hP hD hS ls hl
  obtain ⟨hx, hb, hr, hml, hown, hts, hlk, hnm, hK, hN, hA⟩ := X
  have hown : s.vm.findClass "LoseLeague" = some m.cls := hown
  have hl : lv_has ls 4 [(0, .ref (ad 0)), (1, .int p1), (2, .int p2), (3, .int p3)] := hl
  unfold wpX0_whyNot at h
  refine lv_aload_n hx hb dX0_whyNot_0 rfl (lv_at hl 0 rfl) ?_
  refine va_get (D := D) (ci := 0) (v := .ref (ad 6)) (C := RX0) (T := TX0) (N := 25) hx hb hts in_X0 hown hK hP 0 rfl rfl 1 (Nat.le_of_ble_eq_true rfl) (hts _ q173) (fun _ h9 => h9) rfl dX0_whyNot_1 ?_
  refine lv_iload_n hx hb dX0_whyNot_4 rfl (lv_at hl 1 rfl) ?_
  refine lv_iconst (v := (1 : Int32)) hx hb dX0_whyNot_5 (by decide) ?_
  have hrc := va_recv hK hP (ci := 5) (q0 := 1) rfl rfl
  refine zc_i (wc := [zL (ad 6) (ad 7) (ad 8) fln, zA (kk 0) (ad 7) 20 twn, zA (kk 0) (ad 8) 20 fxn]) (wr := [zO ad f g]) (w1 := (fun u : Unit => [zL (ad 6) (ad 7) (ad 8) fln, zA (kk 0) (ad 7) 20 twn, zA (kk 0) (ad 8) 20 fxn])) (rest := []) [1, 2, 3] [0] rfl rfl (by decide) (by decide) (by decide) hA hP hD hS (fun hP hD => va_runV (As := [.int p1, .int (1 : Int32)]) (rest := []) ⟨hx, hb, hml, hown, hts⟩ (metX5_of l D kk (ad 6) (ad 7) (ad 8) _ fln twn fxn p1 (1 : Int32) _ h) (cwV 2 hts (lw_V q529 q513 q514 q69 q515) rfl rfl rfl pdX5_of ⟨(Nat.le_of_ble_eq_true rfl), (Nat.le_of_ble_eq_true rfl)⟩) (zp_V hK hN hrc hP hD) rfl rfl hl.1 rfl (lv_room (Nat.le_of_ble_eq_true rfl)) dX0_whyNot_6 ⟨(Nat.le_of_ble_eq_true rfl), (Nat.le_of_ble_eq_true rfl)⟩) (fun r_1 u H locs h hP hD hS => ?_)
  try dsimp only at h
  have hP : va_P D vwCl [zO ad f g, zL (ad 6) (ad 7) (ad 8) fln, zA (kk 0) (ad 7) 20 twn, zA (kk 0) (ad 8) 20 fxn] H := hP
  have hD : va_D A [zO ad f g, zL (ad 6) (ad 7) (ad 8) fln, zA (kk 0) (ad 7) 20 twn, zA (kk 0) (ad 8) 20 fxn] := hD
  refine lv_iload_n hx hb dX0_whyNot_9 rfl (lv_at hl 3 rfl) ?_
  refine lv_icmp_ge (tgt := 16) hx hb dX0_whyNot_10 (by decide) (fun c_2 => ?_) (fun c_2 => ?_)
  · have h := h.1 c_2
    refine lv_aload_n hx hb dX0_whyNot_16 rfl (lv_at hl 0 rfl) ?_
    refine va_get (D := D) (ci := 0) (v := .ref (ad 6)) (C := RX0) (T := TX0) (N := 25) hx hb hts in_X0 hown hK hP 0 rfl rfl 1 (Nat.le_of_ble_eq_true rfl) (hts _ q173) (fun _ h9 => h9) rfl dX0_whyNot_17 ?_
    refine lv_iload_n hx hb dX0_whyNot_20 rfl (lv_at hl 2 rfl) ?_
    refine lv_iconst (v := (1 : Int32)) hx hb dX0_whyNot_21 (by decide) ?_
    have hrc := va_recv hK hP (ci := 5) (q0 := 1) rfl rfl
    refine zc_i (wc := [zL (ad 6) (ad 7) (ad 8) fln, zA (kk 0) (ad 7) 20 twn, zA (kk 0) (ad 8) 20 fxn]) (wr := [zO ad f g]) (w1 := (fun u : Unit => [zL (ad 6) (ad 7) (ad 8) fln, zA (kk 0) (ad 7) 20 twn, zA (kk 0) (ad 8) 20 fxn])) (rest := []) [1, 2, 3] [0] rfl rfl (by decide) (by decide) (by decide) hA hP hD hS (fun hP hD => va_runV (As := [.int p2, .int (1 : Int32)]) (rest := []) ⟨hx, hb, hml, hown, hts⟩ (metX5_of l D kk (ad 6) (ad 7) (ad 8) _ fln twn fxn p2 (1 : Int32) _ h) (cwV 2 hts (lw_V q529 q513 q514 q69 q515) rfl rfl rfl pdX5_of ⟨(Nat.le_of_ble_eq_true rfl), (Nat.le_of_ble_eq_true rfl)⟩) (zp_V hK hN hrc hP hD) rfl rfl hl.1 rfl (lv_room (Nat.le_of_ble_eq_true rfl)) dX0_whyNot_22 ⟨(Nat.le_of_ble_eq_true rfl), (Nat.le_of_ble_eq_true rfl)⟩) (fun r_3 u H locs h hP hD hS => ?_)
    try dsimp only at h
    have hP : va_P D vwCl [zO ad f g, zL (ad 6) (ad 7) (ad 8) fln, zA (kk 0) (ad 7) 20 twn, zA (kk 0) (ad 8) 20 fxn] H := hP
    have hD : va_D A [zO ad f g, zL (ad 6) (ad 7) (ad 8) fln, zA (kk 0) (ad 7) 20 twn, zA (kk 0) (ad 8) 20 fxn] := hD
    refine lv_iload_n hx hb dX0_whyNot_25 rfl (lv_at hl 3 rfl) ?_
    refine lv_iadd hx hb dX0_whyNot_26 ?_
    refine lv_bipush (v := (20 : Int32)) hx hb dX0_whyNot_27 (by decide) ?_
    refine lv_icmp_le (tgt := 37) hx hb dX0_whyNot_29 (by decide) (fun c_4 => ?_) (fun c_4 => ?_)
    · have h := h.1 c_4
      refine lv_iconst (v := (0 : Int32)) hx hb dX0_whyNot_37 (by decide) ?_
      exact zr_i hx hb hr hlk rfl hP hD hS () [0, 1, 2, 3] rfl (by decide) dX0_whyNot_38 h
    · have h := h.2 c_4
      refine lv_bipush (v := (-3 : Int32)) hx hb dX0_whyNot_32 (by decide) ?_
      refine lv_goto (tgt := 38) hx hb dX0_whyNot_34 (by decide) ?_
      exact zr_i hx hb hr hlk rfl hP hD hS () [0, 1, 2, 3] rfl (by decide) dX0_whyNot_38 h
  · have h := h.2 c_2
    refine lv_bipush (v := (-2 : Int32)) hx hb dX0_whyNot_13 (by decide) ?_
    exact zr_i hx hb hr hlk rfl hP hD hS () [0, 1, 2, 3] rfl (by decide) dX0_whyNot_15 h
def wpX0_lend (fln : Nat → Int32) (twn : Nat → Int32) (p1 : Int32) (p2 : Int32) (p3 : Int32) (Q : Int32 → (Nat → Int32) → Prop) : Prop :=
  (wpX0_areTwo fln p1 p2 (fun r_1 => ((r_1 = 0 → Q (-1 : Int32) twn) ∧ (¬ r_1 = 0 → (wpX0_in (p3.toInt64) (0 : Int64) (20 : Int64) (fun r_3 => ((r_3 = 0 → Q (-1 : Int32) twn) ∧ (¬ r_3 = 0 → (wpX0_whyNot twn p1 p2 p3 (fun r_5 => ((0 ≤ r_5 → (wpX0_lends twn p1 p2 p3 (fun twn_8 => (wpX5_of twn_8 p1 (1 : Int32) (fun r_9 => Q r_9 twn_8))))) ∧ (¬ 0 ≤ r_5 → Q r_5 twn))))))))))))
set_option maxHeartbeats 4000000 in
theorem metX0_lend (l : Launch) (D : va_G) (kk : Nat → ClassId) (ad : Nat → Nat) (sz : Nat) (f : Nat → Int32) (g : Nat → Int64) (fln : Nat → Int32) (twn : Nat → Int32) (fxn : Nat → Int32) (p1 : Int32) (p2 : Int32) (p3 : Int32) (Q : Int32 → (Nat → Int32) → Prop) (h : wpX0_lend fln twn p1 p2 p3 Q) : Met l yX0_lend (ws_ yX0_lend cX0_lend 5 (some .int)) { frames := 3, cells := 0, slots := 0, locals := 68 } (va_Pc ([.ref (ad 0), .int p1, .int p2, .int p3] : List Value) (zPc D kk [zO ad f g, zL (ad 6) (ad 7) (ad 8) fln, zA (kk 0) (ad 7) 20 twn, zA (kk 0) (ad 8) 20 fxn] sz)) (va_Qi (fun (r : Int32) (u : (Nat → Int32)) => Q r u) (zB D (va_A [zO ad f g, zL (ad 6) (ad 7) (ad 8) fln, zA (kk 0) (ad 7) 20 twn, zA (kk 0) (ad 8) 20 fxn] sz) (fun u : (Nat → Int32) => [zO ad f g, zL (ad 6) (ad 7) (ad 8) fln, zA (kk 0) (ad 7) 20 u, zA (kk 0) (ad 8) 20 fxn])) (va_A [zO ad f g, zL (ad 6) (ad 7) (ad 8) fln, zA (kk 0) (ad 7) 20 twn, zA (kk 0) (ad 8) 20 fxn] sz)) 0 0 (va_A [zO ad f g, zL (ad 6) (ad 7) (ad 8) fln, zA (kk 0) (ad 7) 20 twn, zA (kk 0) (ad 8) 20 fxn] sz) := by
  refine zMet (Qc := fun A => va_Qi (fun (r : Int32) (u : (Nat → Int32)) => Q r u) (zB D A (fun u : (Nat → Int32) => [zO ad f g, zL (ad 6) (ad 7) (ad 8) fln, zA (kk 0) (ad 7) 20 u, zA (kk 0) (ad 8) 20 fxn])) A) (by decide) (Nat.le_of_ble_eq_true rfl) ?_
  intro p e s m below meth c A X hP hD hS ls hl
  obtain ⟨hx, hb, hr, hml, hown, hts, hlk, hnm, hK, hN, hA⟩ := X
  have hown : s.vm.findClass "LoseLeague" = some m.cls := hown
  have hl : lv_has ls 5 [(0, .ref (ad 0)), (1, .int p1), (2, .int p2), (3, .int p3)] := hl
  unfold wpX0_lend at h
  refine lv_aload_n hx hb dX0_lend_0 rfl (lv_at hl 0 rfl) ?_
  refine lv_iload_n hx hb dX0_lend_1 rfl (lv_at hl 1 rfl) ?_
  refine lv_iload_n hx hb dX0_lend_2 rfl (lv_at hl 2 rfl) ?_
  have hrc := va_recv hK hP (ci := 0) (q0 := 0) rfl rfl
  refine zc_i (wc := [zO ad f g, zL (ad 6) (ad 7) (ad 8) fln, zA (kk 0) (ad 7) 20 twn, zA (kk 0) (ad 8) 20 fxn]) (wr := []) (w1 := (fun u : Unit => [zO ad f g, zL (ad 6) (ad 7) (ad 8) fln, zA (kk 0) (ad 7) 20 twn, zA (kk 0) (ad 8) 20 fxn])) (rest := []) [0, 1, 2, 3] [] rfl rfl (by decide) (by decide) (by decide) hA hP hD hS (fun hP hD => va_runV (As := [.int p1, .int p2]) (rest := []) ⟨hx, hb, hml, hown, hts⟩ (metX0_areTwo l D kk ad _ f g fln twn fxn p1 p2 _ h) (cwV 2 hts (lw_V q563 q565 qs12 q64 q566) rfl rfl rfl pdX0_areTwo ⟨(Nat.le_of_ble_eq_true rfl), (Nat.le_of_ble_eq_true rfl)⟩) (zp_V hK hN hrc hP hD) rfl rfl hl.1 rfl (lv_room (Nat.le_of_ble_eq_true rfl)) dX0_lend_3 ⟨(Nat.le_of_ble_eq_true rfl), (Nat.le_of_ble_eq_true rfl)⟩) (fun r_1 u H locs h hP hD hS => ?_)
  try dsimp only at h
  have hP : va_P D vwCl [zO ad f g, zL (ad 6) (ad 7) (ad 8) fln, zA (kk 0) (ad 7) 20 twn, zA (kk 0) (ad 8) 20 fxn] H := hP
  have hD : va_D A [zO ad f g, zL (ad 6) (ad 7) (ad 8) fln, zA (kk 0) (ad 7) 20 twn, zA (kk 0) (ad 8) 20 fxn] := hD
  refine lv_if_eq (tgt := 21) hx hb dX0_lend_6 (by decide) (fun c_2 => ?_) (fun c_2 => ?_)
  · have h := h.1 c_2
    refine lv_iconst (v := (-1 : Int32)) hx hb dX0_lend_21 (by decide) ?_
    exact zr_i hx hb hr hlk rfl hP hD hS (twn) [0, 1, 2, 3] rfl (by decide) dX0_lend_22 h
  · have h := h.2 c_2
    refine lv_iload_n hx hb dX0_lend_9 rfl (lv_at hl 3 rfl) ?_
    refine lv_i2l hx hb dX0_lend_10 rfl ?_
    refine lv_lconst (v := (0 : Int64)) hx hb dX0_lend_11 (by decide) ?_
    refine lv_ldc2 (v := (20 : Int64)) hx hb hown (hts _ q581) dX0_lend_12 ?_
    refine zc_i (wc := []) (wr := [zO ad f g, zL (ad 6) (ad 7) (ad 8) fln, zA (kk 0) (ad 7) 20 twn, zA (kk 0) (ad 8) 20 fxn]) (w1 := (fun u : Unit => [])) (rest := []) [] [0, 1, 2, 3] rfl rfl (by decide) (by decide) (by decide) hA hP hD hS (fun hP hD => va_runS (As := [.long (p3.toInt64), .long (0 : Int64), .long (20 : Int64)]) (rest := []) ⟨hx, hb, hml, hown, hts⟩ (metX0_in l D kk _ (p3.toInt64) (0 : Int64) (20 : Int64) _ h) (va_cwS 3 hts (lw_S q254 q255 q64 q256) rfl rfl rfl pdX0_in.2 ⟨(Nat.le_of_ble_eq_true rfl), (Nat.le_of_ble_eq_true rfl)⟩) (zp_S hK hN hP hD) rfl rfl hl.1 rfl (lv_room (Nat.le_of_ble_eq_true rfl)) dX0_lend_15 ⟨(Nat.le_of_ble_eq_true rfl), (Nat.le_of_ble_eq_true rfl)⟩) (fun r_3 u H locs h hP hD hS => ?_)
    try dsimp only at h
    have hP : va_P D vwCl [zO ad f g, zL (ad 6) (ad 7) (ad 8) fln, zA (kk 0) (ad 7) 20 twn, zA (kk 0) (ad 8) 20 fxn] H := hP
    have hD : va_D A [zO ad f g, zL (ad 6) (ad 7) (ad 8) fln, zA (kk 0) (ad 7) 20 twn, zA (kk 0) (ad 8) 20 fxn] := hD
    refine lv_if_ne (tgt := 23) hx hb dX0_lend_18 (by decide) (fun c_4 => ?_) (fun c_4 => ?_)
    · have h := h.2 c_4
      refine lv_aload_n hx hb dX0_lend_23 rfl (lv_at hl 0 rfl) ?_
      refine lv_iload_n hx hb dX0_lend_24 rfl (lv_at hl 1 rfl) ?_
      refine lv_iload_n hx hb dX0_lend_25 rfl (lv_at hl 2 rfl) ?_
      refine lv_iload_n hx hb dX0_lend_26 rfl (lv_at hl 3 rfl) ?_
      have hrc := va_recv hK hP (ci := 0) (q0 := 0) rfl rfl
      refine zc_i (wc := [zO ad f g, zL (ad 6) (ad 7) (ad 8) fln, zA (kk 0) (ad 7) 20 twn, zA (kk 0) (ad 8) 20 fxn]) (wr := []) (w1 := (fun u : Unit => [zO ad f g, zL (ad 6) (ad 7) (ad 8) fln, zA (kk 0) (ad 7) 20 twn, zA (kk 0) (ad 8) 20 fxn])) (rest := []) [0, 1, 2, 3] [] rfl rfl (by decide) (by decide) (by decide) hA hP hD hS (fun hP hD => va_runV (As := [.int p1, .int p2, .int p3]) (rest := []) ⟨hx, hb, hml, hown, hts⟩ (metX0_whyNot l D kk ad _ f g fln twn fxn p1 p2 p3 _ h) (cwV 3 hts (lw_V q582 q584 qs14 q64 q585) rfl rfl rfl pdX0_whyNot ⟨(Nat.le_of_ble_eq_true rfl), (Nat.le_of_ble_eq_true rfl)⟩) (zp_V hK hN hrc hP hD) rfl rfl hl.1 rfl (lv_room (Nat.le_of_ble_eq_true rfl)) dX0_lend_27 ⟨(Nat.le_of_ble_eq_true rfl), (Nat.le_of_ble_eq_true rfl)⟩) (fun r_5 u H locs h hP hD hS => ?_)
      try dsimp only at h
      have hP : va_P D vwCl [zO ad f g, zL (ad 6) (ad 7) (ad 8) fln, zA (kk 0) (ad 7) 20 twn, zA (kk 0) (ad 8) 20 fxn] H := hP
      have hD : va_D A [zO ad f g, zL (ad 6) (ad 7) (ad 8) fln, zA (kk 0) (ad 7) 20 twn, zA (kk 0) (ad 8) 20 fxn] := hD
      refine lv_istore (lv' := [(4, .int r_5), (0, .ref (ad 0)), (1, .int p1), (2, .int p2), (3, .int p3)]) hx hb dX0_lend_30 hl (by decide) rfl (fun ls hl => ?_)
      refine lv_iload hx hb dX0_lend_32 (lv_at hl 0 rfl) ?_
      refine lv_if_ge (tgt := 40) hx hb dX0_lend_34 (by decide) (fun c_6 => ?_) (fun c_6 => ?_)
      · have h := h.1 c_6
        refine lv_aload_n hx hb dX0_lend_40 rfl (lv_at hl 1 rfl) ?_
        refine va_get (D := D) (ci := 0) (v := .ref (ad 6)) (C := RX0) (T := TX0) (N := 25) hx hb hts in_X0 hown hK hP 0 rfl rfl 1 (Nat.le_of_ble_eq_true rfl) (hts _ q173) (fun _ h9 => h9) rfl dX0_lend_41 ?_
        refine lv_iload_n hx hb dX0_lend_44 rfl (lv_at hl 2 rfl) ?_
        refine lv_iload_n hx hb dX0_lend_45 rfl (lv_at hl 3 rfl) ?_
        refine lv_iload_n hx hb dX0_lend_46 rfl (lv_at hl 4 rfl) ?_
        refine zc_v (wc := [zL (ad 6) (ad 7) (ad 8) fln, zA (kk 0) (ad 7) 20 twn, zA (kk 0) (ad 8) 20 fxn]) (wr := [zO ad f g]) (w1 := (fun u : (Nat → Int32) => [zL (ad 6) (ad 7) (ad 8) fln, zA (kk 0) (ad 7) 20 u, zA (kk 0) (ad 8) 20 fxn])) (rest := []) [1, 2, 3] [0] rfl rfl (by decide) (by decide) (by decide) hA hP hD hS (fun hP hD => va_runS (As := [.ref (ad 6), .int p1, .int p2, .int p3]) (rest := []) ⟨hx, hb, hml, hown, hts⟩ (metX0_lends l D kk (ad 6) (ad 7) (ad 8) _ fln twn fxn p1 p2 p3 _ h) (va_cwS 4 hts (lw_S q586 q587 q64 q588) rfl rfl rfl pdX0_lends.2 ⟨(Nat.le_of_ble_eq_true rfl), (Nat.le_of_ble_eq_true rfl)⟩) (zp_S hK hN hP hD) rfl rfl hl.1 rfl (lv_room (Nat.le_of_ble_eq_true rfl)) dX0_lend_47 ⟨(Nat.le_of_ble_eq_true rfl), (Nat.le_of_ble_eq_true rfl)⟩) (fun u H locs h hP hD hS => ?_)
        obtain ⟨twn_8, rfl⟩ : ∃ z, z = u := ⟨_, rfl⟩
        try dsimp only at h
        have hP : va_P D vwCl [zO ad f g, zL (ad 6) (ad 7) (ad 8) fln, zA (kk 0) (ad 7) 20 twn_8, zA (kk 0) (ad 8) 20 fxn] H := hP
        have hD : va_D A [zO ad f g, zL (ad 6) (ad 7) (ad 8) fln, zA (kk 0) (ad 7) 20 twn_8, zA (kk 0) (ad 8) 20 fxn] := hD
        refine lv_aload_n hx hb dX0_lend_50 rfl (lv_at hl 1 rfl) ?_
        refine va_get (D := D) (ci := 0) (v := .ref (ad 6)) (C := RX0) (T := TX0) (N := 25) hx hb hts in_X0 hown hK hP 0 rfl rfl 1 (Nat.le_of_ble_eq_true rfl) (hts _ q173) (fun _ h9 => h9) rfl dX0_lend_51 ?_
        refine lv_iload_n hx hb dX0_lend_54 rfl (lv_at hl 2 rfl) ?_
        refine lv_iconst (v := (1 : Int32)) hx hb dX0_lend_55 (by decide) ?_
        have hrc := va_recv hK hP (ci := 5) (q0 := 1) rfl rfl
        refine zc_i (wc := [zL (ad 6) (ad 7) (ad 8) fln, zA (kk 0) (ad 7) 20 twn_8, zA (kk 0) (ad 8) 20 fxn]) (wr := [zO ad f g]) (w1 := (fun u : Unit => [zL (ad 6) (ad 7) (ad 8) fln, zA (kk 0) (ad 7) 20 twn_8, zA (kk 0) (ad 8) 20 fxn])) (rest := []) [1, 2, 3] [0] rfl rfl (by decide) (by decide) (by decide) hA hP hD hS (fun hP hD => va_runV (As := [.int p1, .int (1 : Int32)]) (rest := []) ⟨hx, hb, hml, hown, hts⟩ (metX5_of l D kk (ad 6) (ad 7) (ad 8) _ fln twn_8 fxn p1 (1 : Int32) _ h) (cwV 2 hts (lw_V q529 q513 q514 q69 q515) rfl rfl rfl pdX5_of ⟨(Nat.le_of_ble_eq_true rfl), (Nat.le_of_ble_eq_true rfl)⟩) (zp_V hK hN hrc hP hD) rfl rfl hl.1 rfl (lv_room (Nat.le_of_ble_eq_true rfl)) dX0_lend_56 ⟨(Nat.le_of_ble_eq_true rfl), (Nat.le_of_ble_eq_true rfl)⟩) (fun r_9 u H locs h hP hD hS => ?_)
        try dsimp only at h
        have hP : va_P D vwCl [zO ad f g, zL (ad 6) (ad 7) (ad 8) fln, zA (kk 0) (ad 7) 20 twn_8, zA (kk 0) (ad 8) 20 fxn] H := hP
        have hD : va_D A [zO ad f g, zL (ad 6) (ad 7) (ad 8) fln, zA (kk 0) (ad 7) 20 twn_8, zA (kk 0) (ad 8) 20 fxn] := hD
        exact zr_i hx hb hr hlk rfl hP hD hS (twn_8) [0, 1, 2, 3] rfl (by decide) dX0_lend_59 h
      · have h := h.2 c_6
        refine lv_iload hx hb dX0_lend_37 (lv_at hl 0 rfl) ?_
        exact zr_i hx hb hr hlk rfl hP hD hS (twn) [0, 1, 2, 3] rfl (by decide) dX0_lend_39 h
    · have h := h.1 c_4
      refine lv_iconst (v := (-1 : Int32)) hx hb dX0_lend_21 (by decide) ?_
      exact zr_i hx hb hr hlk rfl hP hD hS (twn) [0, 1, 2, 3] rfl (by decide) dX0_lend_22 h
def wpX0_book (fln : Nat → Int32) (fxn : Nat → Int32) (p1 : Int32) (p2 : Int32) (Q : Int32 → (Nat → Int32) → (Nat → Int32) → Prop) : Prop :=
  (wpX0_areTwo fln p1 p2 (fun r_1 => ((r_1 = 0 → Q (-1 : Int32) fln fxn) ∧ (¬ r_1 = 0 → (((fln 2) = (10 : Int32) → Q (-3 : Int32) fln fxn) ∧ (¬ (fln 2) = (10 : Int32) → (wpX5_books fln fxn p1 p2 (fun fln_5 fxn_6 => Q (fln_5 2) fln_5 fxn_6))))))))
set_option maxHeartbeats 4000000 in
theorem metX0_book (l : Launch) (D : va_G) (kk : Nat → ClassId) (ad : Nat → Nat) (sz : Nat) (f : Nat → Int32) (g : Nat → Int64) (fln : Nat → Int32) (twn : Nat → Int32) (fxn : Nat → Int32) (p1 : Int32) (p2 : Int32) (Q : Int32 → (Nat → Int32) → (Nat → Int32) → Prop) (h : wpX0_book fln fxn p1 p2 Q) : Met l yX0_book (ws_ yX0_book cX0_book 3 (some .int)) { frames := 3, cells := 0, slots := 0, locals := 68 } (va_Pc ([.ref (ad 0), .int p1, .int p2] : List Value) (zPc D kk [zO ad f g, zL (ad 6) (ad 7) (ad 8) fln, zA (kk 0) (ad 7) 20 twn, zA (kk 0) (ad 8) 20 fxn] sz)) (va_Qi (fun (r : Int32) (u : (Nat → Int32) × (Nat → Int32)) => Q r u.1 u.2) (zB D (va_A [zO ad f g, zL (ad 6) (ad 7) (ad 8) fln, zA (kk 0) (ad 7) 20 twn, zA (kk 0) (ad 8) 20 fxn] sz) (fun u : (Nat → Int32) × (Nat → Int32) => [zO ad f g, zL (ad 6) (ad 7) (ad 8) u.1, zA (kk 0) (ad 7) 20 twn, zA (kk 0) (ad 8) 20 u.2])) (va_A [zO ad f g, zL (ad 6) (ad 7) (ad 8) fln, zA (kk 0) (ad 7) 20 twn, zA (kk 0) (ad 8) 20 fxn] sz)) 0 0 (va_A [zO ad f g, zL (ad 6) (ad 7) (ad 8) fln, zA (kk 0) (ad 7) 20 twn, zA (kk 0) (ad 8) 20 fxn] sz) := by
  refine zMet (Qc := fun A => va_Qi (fun (r : Int32) (u : (Nat → Int32) × (Nat → Int32)) => Q r u.1 u.2) (zB D A (fun u : (Nat → Int32) × (Nat → Int32) => [zO ad f g, zL (ad 6) (ad 7) (ad 8) u.1, zA (kk 0) (ad 7) 20 twn, zA (kk 0) (ad 8) 20 u.2])) A) (by decide) (Nat.le_of_ble_eq_true rfl) ?_
  intro p e s m below meth c A X hP hD hS ls hl
  obtain ⟨hx, hb, hr, hml, hown, hts, hlk, hnm, hK, hN, hA⟩ := X
  have hown : s.vm.findClass "LoseLeague" = some m.cls := hown
  have hl : lv_has ls 3 [(0, .ref (ad 0)), (1, .int p1), (2, .int p2)] := hl
  unfold wpX0_book at h
  refine lv_aload_n hx hb dX0_book_0 rfl (lv_at hl 0 rfl) ?_
  refine lv_iload_n hx hb dX0_book_1 rfl (lv_at hl 1 rfl) ?_
  refine lv_iload_n hx hb dX0_book_2 rfl (lv_at hl 2 rfl) ?_
  have hrc := va_recv hK hP (ci := 0) (q0 := 0) rfl rfl
  refine zc_i (wc := [zO ad f g, zL (ad 6) (ad 7) (ad 8) fln, zA (kk 0) (ad 7) 20 twn, zA (kk 0) (ad 8) 20 fxn]) (wr := []) (w1 := (fun u : Unit => [zO ad f g, zL (ad 6) (ad 7) (ad 8) fln, zA (kk 0) (ad 7) 20 twn, zA (kk 0) (ad 8) 20 fxn])) (rest := []) [0, 1, 2, 3] [] rfl rfl (by decide) (by decide) (by decide) hA hP hD hS (fun hP hD => va_runV (As := [.int p1, .int p2]) (rest := []) ⟨hx, hb, hml, hown, hts⟩ (metX0_areTwo l D kk ad _ f g fln twn fxn p1 p2 _ h) (cwV 2 hts (lw_V q563 q565 qs12 q64 q566) rfl rfl rfl pdX0_areTwo ⟨(Nat.le_of_ble_eq_true rfl), (Nat.le_of_ble_eq_true rfl)⟩) (zp_V hK hN hrc hP hD) rfl rfl hl.1 rfl (lv_room (Nat.le_of_ble_eq_true rfl)) dX0_book_3 ⟨(Nat.le_of_ble_eq_true rfl), (Nat.le_of_ble_eq_true rfl)⟩) (fun r_1 u H locs h hP hD hS => ?_)
  try dsimp only at h
  have hP : va_P D vwCl [zO ad f g, zL (ad 6) (ad 7) (ad 8) fln, zA (kk 0) (ad 7) 20 twn, zA (kk 0) (ad 8) 20 fxn] H := hP
  have hD : va_D A [zO ad f g, zL (ad 6) (ad 7) (ad 8) fln, zA (kk 0) (ad 7) 20 twn, zA (kk 0) (ad 8) 20 fxn] := hD
  refine lv_if_ne (tgt := 11) hx hb dX0_book_6 (by decide) (fun c_2 => ?_) (fun c_2 => ?_)
  · have h := h.2 c_2
    refine lv_aload_n hx hb dX0_book_11 rfl (lv_at hl 0 rfl) ?_
    refine va_get (D := D) (ci := 0) (v := .ref (ad 6)) (C := RX0) (T := TX0) (N := 25) hx hb hts in_X0 hown hK hP 0 rfl rfl 1 (Nat.le_of_ble_eq_true rfl) (hts _ q173) (fun _ h9 => h9) rfl dX0_book_12 ?_
    refine va_getN (D := D) (ci := 5) (v := .int (fln 2)) (C := RX5) (T := TX5) (N := 6) hx hb hts in_X5 hown hK hP 1 rfl rfl 2 (Nat.le_of_ble_eq_true rfl) (zN_f hN 2 rfl rfl) (fun _ h9 => h9) rfl dX0_book_15 ?_
    refine lv_bipush (v := (10 : Int32)) hx hb dX0_book_18 (by decide) ?_
    refine lv_icmp_ne (tgt := 26) hx hb dX0_book_20 (by decide) (fun c_3 => ?_) (fun c_3 => ?_)
    · have h := h.2 c_3
      refine lv_aload_n hx hb dX0_book_26 rfl (lv_at hl 0 rfl) ?_
      refine va_get (D := D) (ci := 0) (v := .ref (ad 6)) (C := RX0) (T := TX0) (N := 25) hx hb hts in_X0 hown hK hP 0 rfl rfl 1 (Nat.le_of_ble_eq_true rfl) (hts _ q173) (fun _ h9 => h9) rfl dX0_book_27 ?_
      refine lv_iload_n hx hb dX0_book_30 rfl (lv_at hl 1 rfl) ?_
      refine lv_iload_n hx hb dX0_book_31 rfl (lv_at hl 2 rfl) ?_
      have hrc := va_recv hK hP (ci := 5) (q0 := 1) rfl rfl
      refine zc_v (wc := [zL (ad 6) (ad 7) (ad 8) fln, zA (kk 0) (ad 7) 20 twn, zA (kk 0) (ad 8) 20 fxn]) (wr := [zO ad f g]) (w1 := (fun u : (Nat → Int32) × (Nat → Int32) => [zL (ad 6) (ad 7) (ad 8) u.1, zA (kk 0) (ad 7) 20 twn, zA (kk 0) (ad 8) 20 u.2])) (rest := []) [1, 2, 3] [0] rfl rfl (by decide) (by decide) (by decide) hA hP hD hS (fun hP hD => va_runV (As := [.int p1, .int p2]) (rest := []) ⟨hx, hb, hml, hown, hts⟩ (metX5_books l D kk (ad 6) (ad 7) (ad 8) _ fln twn fxn p1 p2 _ h) (cwV 2 hts (lw_V q593 q478 q479 q69 q480) rfl rfl rfl pdX5_books ⟨(Nat.le_of_ble_eq_true rfl), (Nat.le_of_ble_eq_true rfl)⟩) (zp_V hK hN hrc hP hD) rfl rfl hl.1 rfl (lv_room (Nat.le_of_ble_eq_true rfl)) dX0_book_32 ⟨(Nat.le_of_ble_eq_true rfl), (Nat.le_of_ble_eq_true rfl)⟩) (fun u H locs h hP hD hS => ?_)
      obtain ⟨fln_5, fxn_6⟩ := u
      try dsimp only at h
      have hP : va_P D vwCl [zO ad f g, zL (ad 6) (ad 7) (ad 8) fln_5, zA (kk 0) (ad 7) 20 twn, zA (kk 0) (ad 8) 20 fxn_6] H := hP
      have hD : va_D A [zO ad f g, zL (ad 6) (ad 7) (ad 8) fln_5, zA (kk 0) (ad 7) 20 twn, zA (kk 0) (ad 8) 20 fxn_6] := hD
      refine lv_aload_n hx hb dX0_book_35 rfl (lv_at hl 0 rfl) ?_
      refine va_get (D := D) (ci := 0) (v := .ref (ad 6)) (C := RX0) (T := TX0) (N := 25) hx hb hts in_X0 hown hK hP 0 rfl rfl 1 (Nat.le_of_ble_eq_true rfl) (hts _ q173) (fun _ h9 => h9) rfl dX0_book_36 ?_
      refine va_getN (D := D) (ci := 5) (v := .int (fln_5 2)) (C := RX5) (T := TX5) (N := 6) hx hb hts in_X5 hown hK hP 1 rfl rfl 2 (Nat.le_of_ble_eq_true rfl) (zN_f hN 2 rfl rfl) (fun _ h9 => h9) rfl dX0_book_39 ?_
      exact zr_i hx hb hr hlk rfl hP hD hS (fln_5, fxn_6) [0, 1, 2, 3] rfl (by decide) dX0_book_42 h
    · have h := h.1 c_3
      refine lv_bipush (v := (-3 : Int32)) hx hb dX0_book_23 (by decide) ?_
      exact zr_i hx hb hr hlk rfl hP hD hS (fln, fxn) [0, 1, 2, 3] rfl (by decide) dX0_book_25 h
  · have h := h.1 c_2
    refine lv_iconst (v := (-1 : Int32)) hx hb dX0_book_9 (by decide) ?_
    exact zr_i hx hb hr hlk rfl hP hD hS (fln, fxn) [0, 1, 2, 3] rfl (by decide) dX0_book_10 h
def wpX0_strike (fln : Nat → Int32) (p1 : Int32) (Q : Int32 → (Nat → Int32) → Prop) : Prop :=
  (wpX0_in (p1.toInt64) (0 : Int64) ((fln 2).toInt64) (fun r_1 => ((r_1 = 0 → Q (-1 : Int32) fln) ∧ (¬ r_1 = 0 → Q (fln 2) (upd fln 2 p1)))))
set_option maxHeartbeats 4000000 in
theorem metX0_strike (l : Launch) (D : va_G) (kk : Nat → ClassId) (ad : Nat → Nat) (sz : Nat) (f : Nat → Int32) (g : Nat → Int64) (fln : Nat → Int32) (twn : Nat → Int32) (fxn : Nat → Int32) (p1 : Int32) (Q : Int32 → (Nat → Int32) → Prop) (h : wpX0_strike fln p1 Q) : Met l yX0_strike (ws_ yX0_strike cX0_strike 3 (some .int)) { frames := 1, cells := 0, slots := 0, locals := 25 } (va_Pc ([.ref (ad 0), .int p1] : List Value) (zPc D kk [zO ad f g, zL (ad 6) (ad 7) (ad 8) fln, zA (kk 0) (ad 7) 20 twn, zA (kk 0) (ad 8) 20 fxn] sz)) (va_Qi (fun (r : Int32) (u : (Nat → Int32)) => Q r u) (zB D (va_A [zO ad f g, zL (ad 6) (ad 7) (ad 8) fln, zA (kk 0) (ad 7) 20 twn, zA (kk 0) (ad 8) 20 fxn] sz) (fun u : (Nat → Int32) => [zO ad f g, zL (ad 6) (ad 7) (ad 8) u, zA (kk 0) (ad 7) 20 twn, zA (kk 0) (ad 8) 20 fxn])) (va_A [zO ad f g, zL (ad 6) (ad 7) (ad 8) fln, zA (kk 0) (ad 7) 20 twn, zA (kk 0) (ad 8) 20 fxn] sz)) 0 0 (va_A [zO ad f g, zL (ad 6) (ad 7) (ad 8) fln, zA (kk 0) (ad 7) 20 twn, zA (kk 0) (ad 8) 20 fxn] sz) := by
  refine zMet (Qc := fun A => va_Qi (fun (r : Int32) (u : (Nat → Int32)) => Q r u) (zB D A (fun u : (Nat → Int32) => [zO ad f g, zL (ad 6) (ad 7) (ad 8) u, zA (kk 0) (ad 7) 20 twn, zA (kk 0) (ad 8) 20 fxn])) A) (by decide) (Nat.le_of_ble_eq_true rfl) ?_
  intro p e s m below meth c A X hP hD hS ls hl
  obtain ⟨hx, hb, hr, hml, hown, hts, hlk, hnm, hK, hN, hA⟩ := X
  have hown : s.vm.findClass "LoseLeague" = some m.cls := hown
  have hl : lv_has ls 3 [(0, .ref (ad 0)), (1, .int p1)] := hl
  unfold wpX0_strike at h
  refine lv_iload_n hx hb dX0_strike_0 rfl (lv_at hl 1 rfl) ?_
  refine lv_i2l hx hb dX0_strike_1 rfl ?_
  refine lv_lconst (v := (0 : Int64)) hx hb dX0_strike_2 (by decide) ?_
  refine lv_aload_n hx hb dX0_strike_3 rfl (lv_at hl 0 rfl) ?_
  refine va_get (D := D) (ci := 0) (v := .ref (ad 6)) (C := RX0) (T := TX0) (N := 25) hx hb hts in_X0 hown hK hP 0 rfl rfl 1 (Nat.le_of_ble_eq_true rfl) (hts _ q173) (fun _ h9 => h9) rfl dX0_strike_4 ?_
  refine va_getN (D := D) (ci := 5) (v := .int (fln 2)) (C := RX5) (T := TX5) (N := 6) hx hb hts in_X5 hown hK hP 1 rfl rfl 2 (Nat.le_of_ble_eq_true rfl) (zN_f hN 2 rfl rfl) (fun _ h9 => h9) rfl dX0_strike_7 ?_
  refine lv_i2l hx hb dX0_strike_10 rfl ?_
  refine zc_i (wc := []) (wr := [zO ad f g, zL (ad 6) (ad 7) (ad 8) fln, zA (kk 0) (ad 7) 20 twn, zA (kk 0) (ad 8) 20 fxn]) (w1 := (fun u : Unit => [])) (rest := []) [] [0, 1, 2, 3] rfl rfl (by decide) (by decide) (by decide) hA hP hD hS (fun hP hD => va_runS (As := [.long (p1.toInt64), .long (0 : Int64), .long ((fln 2).toInt64)]) (rest := []) ⟨hx, hb, hml, hown, hts⟩ (metX0_in l D kk _ (p1.toInt64) (0 : Int64) ((fln 2).toInt64) _ h) (va_cwS 3 hts (lw_S q254 q255 q64 q256) rfl rfl rfl pdX0_in.2 ⟨(Nat.le_of_ble_eq_true rfl), (Nat.le_of_ble_eq_true rfl)⟩) (zp_S hK hN hP hD) rfl rfl hl.1 rfl (lv_room (Nat.le_of_ble_eq_true rfl)) dX0_strike_11 ⟨(Nat.le_of_ble_eq_true rfl), (Nat.le_of_ble_eq_true rfl)⟩) (fun r_1 u H locs h hP hD hS => ?_)
  try dsimp only at h
  have hP : va_P D vwCl [zO ad f g, zL (ad 6) (ad 7) (ad 8) fln, zA (kk 0) (ad 7) 20 twn, zA (kk 0) (ad 8) 20 fxn] H := hP
  have hD : va_D A [zO ad f g, zL (ad 6) (ad 7) (ad 8) fln, zA (kk 0) (ad 7) 20 twn, zA (kk 0) (ad 8) 20 fxn] := hD
  refine lv_if_ne (tgt := 19) hx hb dX0_strike_14 (by decide) (fun c_2 => ?_) (fun c_2 => ?_)
  · have h := h.2 c_2
    refine lv_aload_n hx hb dX0_strike_19 rfl (lv_at hl 0 rfl) ?_
    refine va_get (D := D) (ci := 0) (v := .ref (ad 6)) (C := RX0) (T := TX0) (N := 25) hx hb hts in_X0 hown hK hP 0 rfl rfl 1 (Nat.le_of_ble_eq_true rfl) (hts _ q173) (fun _ h9 => h9) rfl dX0_strike_20 ?_
    refine va_getN (D := D) (ci := 5) (v := .int (fln 2)) (C := RX5) (T := TX5) (N := 6) hx hb hts in_X5 hown hK hP 1 rfl rfl 2 (Nat.le_of_ble_eq_true rfl) (zN_f hN 2 rfl rfl) (fun _ h9 => h9) rfl dX0_strike_23 ?_
    refine lv_istore_n (lv' := [(2, .int (fln 2)), (0, .ref (ad 0)), (1, .int p1)]) hx hb dX0_strike_26 rfl hl (by decide) rfl (fun ls hl => ?_)
    refine lv_aload_n hx hb dX0_strike_27 rfl (lv_at hl 1 rfl) ?_
    refine va_get (D := D) (ci := 0) (v := .ref (ad 6)) (C := RX0) (T := TX0) (N := 25) hx hb hts in_X0 hown hK hP 0 rfl rfl 1 (Nat.le_of_ble_eq_true rfl) (hts _ q173) (fun _ h9 => h9) rfl dX0_strike_28 ?_
    refine lv_iload_n hx hb dX0_strike_31 rfl (lv_at hl 2 rfl) ?_
    refine va_putN (D := D) (ci := 5) (v := .int p1) (C := RX5) (T := TX5) (N := 6) hx hb hts in_X5 tyX5 tyX5_ok nmX5 hown hK hP hD hS 1 rfl rfl 2 (Nat.le_of_ble_eq_true rfl) (zN_f hN 2 rfl rfl) (fun _ h9 => h9) rfl (tyX5_ok 2 (Nat.le_of_ble_eq_true rfl)) rfl rfl (Nat.le_of_ble_eq_true rfl) dX0_strike_32 (fun H locs hP hD hS => ?_)
    have hP : va_P D vwCl [zO ad f g, zL (ad 6) (ad 7) (ad 8) (upd fln 2 p1), zA (kk 0) (ad 7) 20 twn, zA (kk 0) (ad 8) 20 fxn] H := hP
    have hD : va_D A [zO ad f g, zL (ad 6) (ad 7) (ad 8) (upd fln 2 p1), zA (kk 0) (ad 7) 20 twn, zA (kk 0) (ad 8) 20 fxn] := hD
    refine lv_iload_n hx hb dX0_strike_35 rfl (lv_at hl 0 rfl) ?_
    exact zr_i hx hb hr hlk rfl hP hD hS ((upd fln 2 p1)) [0, 1, 2, 3] rfl (by decide) dX0_strike_36 h
  · have h := h.1 c_2
    refine lv_iconst (v := (-1 : Int32)) hx hb dX0_strike_17 (by decide) ?_
    exact zr_i hx hb hr hlk rfl hP hD hS (fln) [0, 1, 2, 3] rfl (by decide) dX0_strike_18 h
def wpX0_weeks (f : Nat → Int32) (fln : Nat → Int32) (twn : Nat → Int32) (fxn : Nat → Int32) (p1 : Int32) (Q : Int32 → (Nat → Int32) → (Nat → Int32) → (Nat → Int32) → Prop) : Prop :=
  (wpX0_in (p1.toInt64) (0 : Int64) (30 : Int64) (fun r_1 => ((r_1 = 0 → Q (-1 : Int32) f fln twn) ∧ (¬ r_1 = 0 → ((((fln 4) + p1) ≤ (999 : Int32) → (wpX0_weeksGo f fln twn fxn p1 (fun f_5 fln_6 twn_7 => Q (f_5 7) f_5 fln_6 twn_7))) ∧ (¬ ((fln 4) + p1) ≤ (999 : Int32) → Q (-3 : Int32) f fln twn))))))
set_option maxHeartbeats 4000000 in
theorem metX0_weeks (l : Launch) (D : va_G) (kk : Nat → ClassId) (ad : Nat → Nat) (sz : Nat) (f : Nat → Int32) (g : Nat → Int64) (fln : Nat → Int32) (twn : Nat → Int32) (fxn : Nat → Int32) (p1 : Int32) (Q : Int32 → (Nat → Int32) → (Nat → Int32) → (Nat → Int32) → Prop) (h : wpX0_weeks f fln twn fxn p1 Q) : Met l yX0_weeks (ws_ yX0_weeks cX0_weeks 2 (some .int)) { frames := 8, cells := 0, slots := 0, locals := 183 } (va_Pc ([.ref (ad 0), .int p1] : List Value) (zPc D kk [zO ad f g, zQ (kk 4) (ad 1) 4 (zKf ad), zJ (ad 2) 1, zJ (ad 3) 2, zJ (ad 4) 3, zJ (ad 5) 4, zL (ad 6) (ad 7) (ad 8) fln, zA (kk 0) (ad 7) 20 twn, zA (kk 0) (ad 8) 20 fxn] sz)) (va_Qi (fun (r : Int32) (u : (Nat → Int32) × (Nat → Int32) × (Nat → Int32)) => Q r u.1 u.2.1 u.2.2) (zB D (va_A [zO ad f g, zQ (kk 4) (ad 1) 4 (zKf ad), zJ (ad 2) 1, zJ (ad 3) 2, zJ (ad 4) 3, zJ (ad 5) 4, zL (ad 6) (ad 7) (ad 8) fln, zA (kk 0) (ad 7) 20 twn, zA (kk 0) (ad 8) 20 fxn] sz) (fun u : (Nat → Int32) × (Nat → Int32) × (Nat → Int32) => [zO ad u.1 g, zQ (kk 4) (ad 1) 4 (zKf ad), zJ (ad 2) 1, zJ (ad 3) 2, zJ (ad 4) 3, zJ (ad 5) 4, zL (ad 6) (ad 7) (ad 8) u.2.1, zA (kk 0) (ad 7) 20 u.2.2, zA (kk 0) (ad 8) 20 fxn])) (va_A [zO ad f g, zQ (kk 4) (ad 1) 4 (zKf ad), zJ (ad 2) 1, zJ (ad 3) 2, zJ (ad 4) 3, zJ (ad 5) 4, zL (ad 6) (ad 7) (ad 8) fln, zA (kk 0) (ad 7) 20 twn, zA (kk 0) (ad 8) 20 fxn] sz)) 0 0 (va_A [zO ad f g, zQ (kk 4) (ad 1) 4 (zKf ad), zJ (ad 2) 1, zJ (ad 3) 2, zJ (ad 4) 3, zJ (ad 5) 4, zL (ad 6) (ad 7) (ad 8) fln, zA (kk 0) (ad 7) 20 twn, zA (kk 0) (ad 8) 20 fxn] sz) := by
  refine zMet (Qc := fun A => va_Qi (fun (r : Int32) (u : (Nat → Int32) × (Nat → Int32) × (Nat → Int32)) => Q r u.1 u.2.1 u.2.2) (zB D A (fun u : (Nat → Int32) × (Nat → Int32) × (Nat → Int32) => [zO ad u.1 g, zQ (kk 4) (ad 1) 4 (zKf ad), zJ (ad 2) 1, zJ (ad 3) 2, zJ (ad 4) 3, zJ (ad 5) 4, zL (ad 6) (ad 7) (ad 8) u.2.1, zA (kk 0) (ad 7) 20 u.2.2, zA (kk 0) (ad 8) 20 fxn])) A) (by decide) (Nat.le_of_ble_eq_true rfl) ?_
  intro p e s m below meth c A X hP hD hS ls hl
  obtain ⟨hx, hb, hr, hml, hown, hts, hlk, hnm, hK, hN, hA⟩ := X
  have hown : s.vm.findClass "LoseLeague" = some m.cls := hown
  have hl : lv_has ls 2 [(0, .ref (ad 0)), (1, .int p1)] := hl
  unfold wpX0_weeks at h
  refine lv_iload_n hx hb dX0_weeks_0 rfl (lv_at hl 1 rfl) ?_
  refine lv_i2l hx hb dX0_weeks_1 rfl ?_
  refine lv_lconst (v := (0 : Int64)) hx hb dX0_weeks_2 (by decide) ?_
  refine lv_ldc2 (v := (30 : Int64)) hx hb hown (hts _ q602) dX0_weeks_3 ?_
  refine zc_i (wc := []) (wr := [zO ad f g, zQ (kk 4) (ad 1) 4 (zKf ad), zJ (ad 2) 1, zJ (ad 3) 2, zJ (ad 4) 3, zJ (ad 5) 4, zL (ad 6) (ad 7) (ad 8) fln, zA (kk 0) (ad 7) 20 twn, zA (kk 0) (ad 8) 20 fxn]) (w1 := (fun u : Unit => [])) (rest := []) [] [0, 1, 2, 3, 4, 5, 6, 7, 8] rfl rfl (by decide) (by decide) (by decide) hA hP hD hS (fun hP hD => va_runS (As := [.long (p1.toInt64), .long (0 : Int64), .long (30 : Int64)]) (rest := []) ⟨hx, hb, hml, hown, hts⟩ (metX0_in l D kk _ (p1.toInt64) (0 : Int64) (30 : Int64) _ h) (va_cwS 3 hts (lw_S q254 q255 q64 q256) rfl rfl rfl pdX0_in.2 ⟨(Nat.le_of_ble_eq_true rfl), (Nat.le_of_ble_eq_true rfl)⟩) (zp_S hK hN hP hD) rfl rfl hl.1 rfl (lv_room (Nat.le_of_ble_eq_true rfl)) dX0_weeks_6 ⟨(Nat.le_of_ble_eq_true rfl), (Nat.le_of_ble_eq_true rfl)⟩) (fun r_1 u H locs h hP hD hS => ?_)
  try dsimp only at h
  have hP : va_P D vwCl [zO ad f g, zQ (kk 4) (ad 1) 4 (zKf ad), zJ (ad 2) 1, zJ (ad 3) 2, zJ (ad 4) 3, zJ (ad 5) 4, zL (ad 6) (ad 7) (ad 8) fln, zA (kk 0) (ad 7) 20 twn, zA (kk 0) (ad 8) 20 fxn] H := hP
  have hD : va_D A [zO ad f g, zQ (kk 4) (ad 1) 4 (zKf ad), zJ (ad 2) 1, zJ (ad 3) 2, zJ (ad 4) 3, zJ (ad 5) 4, zL (ad 6) (ad 7) (ad 8) fln, zA (kk 0) (ad 7) 20 twn, zA (kk 0) (ad 8) 20 fxn] := hD
  refine lv_if_ne (tgt := 14) hx hb dX0_weeks_9 (by decide) (fun c_2 => ?_) (fun c_2 => ?_)
  · have h := h.2 c_2
    refine lv_aload_n hx hb dX0_weeks_14 rfl (lv_at hl 0 rfl) ?_
    refine va_get (D := D) (ci := 0) (v := .ref (ad 6)) (C := RX0) (T := TX0) (N := 25) hx hb hts in_X0 hown hK hP 0 rfl rfl 1 (Nat.le_of_ble_eq_true rfl) (hts _ q173) (fun _ h9 => h9) rfl dX0_weeks_15 ?_
    refine va_getN (D := D) (ci := 5) (v := .int (fln 4)) (C := RX5) (T := TX5) (N := 6) hx hb hts in_X5 hown hK hP 6 rfl rfl 4 (Nat.le_of_ble_eq_true rfl) (zN_f hN 5 rfl rfl) (fun _ h9 => h9) rfl dX0_weeks_18 ?_
    refine lv_iload_n hx hb dX0_weeks_21 rfl (lv_at hl 1 rfl) ?_
    refine lv_iadd hx hb dX0_weeks_22 ?_
    refine lv_sipush (v := (999 : Int32)) hx hb dX0_weeks_23 (by decide) ?_
    refine lv_icmp_le (tgt := 32) hx hb dX0_weeks_26 (by decide) (fun c_3 => ?_) (fun c_3 => ?_)
    · have h := h.1 c_3
      refine lv_aload_n hx hb dX0_weeks_32 rfl (lv_at hl 0 rfl) ?_
      refine lv_aload_n hx hb dX0_weeks_33 rfl (lv_at hl 0 rfl) ?_
      refine va_get (D := D) (ci := 0) (v := .ref (ad 6)) (C := RX0) (T := TX0) (N := 25) hx hb hts in_X0 hown hK hP 0 rfl rfl 1 (Nat.le_of_ble_eq_true rfl) (hts _ q173) (fun _ h9 => h9) rfl dX0_weeks_34 ?_
      refine lv_iload_n hx hb dX0_weeks_37 rfl (lv_at hl 1 rfl) ?_
      have hrc := va_recv hK hP (ci := 0) (q0 := 0) rfl rfl
      refine zc_v (wc := [zO ad f g, zQ (kk 4) (ad 1) 4 (zKf ad), zJ (ad 2) 1, zJ (ad 3) 2, zJ (ad 4) 3, zJ (ad 5) 4, zL (ad 6) (ad 7) (ad 8) fln, zA (kk 0) (ad 7) 20 twn, zA (kk 0) (ad 8) 20 fxn]) (wr := []) (w1 := (fun u : (Nat → Int32) × (Nat → Int32) × (Nat → Int32) => [zO ad u.1 g, zQ (kk 4) (ad 1) 4 (zKf ad), zJ (ad 2) 1, zJ (ad 3) 2, zJ (ad 4) 3, zJ (ad 5) 4, zL (ad 6) (ad 7) (ad 8) u.2.1, zA (kk 0) (ad 7) 20 u.2.2, zA (kk 0) (ad 8) 20 fxn])) (rest := []) [0, 1, 2, 3, 4, 5, 6, 7, 8] [] rfl rfl (by decide) (by decide) (by decide) hA hP hD hS (fun hP hD => va_runV (As := [.ref (ad 6), .int p1]) (rest := []) ⟨hx, hb, hml, hown, hts⟩ (metX0_weeksGo l D kk ad (ad 6) (ad 7) (ad 8) _ f g fln twn fxn p1 _ h) (cwV 2 hts (lw_V q603 q605 qs15 q64 q606) rfl rfl rfl pdX0_weeksGo ⟨(Nat.le_of_ble_eq_true rfl), (Nat.le_of_ble_eq_true rfl)⟩) (zp_V hK hN hrc hP hD) rfl rfl hl.1 rfl (lv_room (Nat.le_of_ble_eq_true rfl)) dX0_weeks_38 ⟨(Nat.le_of_ble_eq_true rfl), (Nat.le_of_ble_eq_true rfl)⟩) (fun u H locs h hP hD hS => ?_)
      obtain ⟨f_5, fln_6, twn_7⟩ := u
      try dsimp only at h
      have hP : va_P D vwCl [zO ad f_5 g, zQ (kk 4) (ad 1) 4 (zKf ad), zJ (ad 2) 1, zJ (ad 3) 2, zJ (ad 4) 3, zJ (ad 5) 4, zL (ad 6) (ad 7) (ad 8) fln_6, zA (kk 0) (ad 7) 20 twn_7, zA (kk 0) (ad 8) 20 fxn] H := hP
      have hD : va_D A [zO ad f_5 g, zQ (kk 4) (ad 1) 4 (zKf ad), zJ (ad 2) 1, zJ (ad 3) 2, zJ (ad 4) 3, zJ (ad 5) 4, zL (ad 6) (ad 7) (ad 8) fln_6, zA (kk 0) (ad 7) 20 twn_7, zA (kk 0) (ad 8) 20 fxn] := hD
      refine lv_aload_n hx hb dX0_weeks_41 rfl (lv_at hl 0 rfl) ?_
      refine va_get (D := D) (ci := 0) (v := .int (f_5 7)) (C := RX0) (T := TX0) (N := 25) hx hb hts in_X0 hown hK hP 0 rfl rfl 7 (Nat.le_of_ble_eq_true rfl) (hts _ q179) (fun _ h9 => h9) rfl dX0_weeks_42 ?_
      exact zr_i hx hb hr hlk rfl hP hD hS (f_5, fln_6, twn_7) [0, 1, 2, 3, 4, 5, 6, 7, 8] rfl (by decide) dX0_weeks_45 h
    · have h := h.2 c_3
      refine lv_bipush (v := (-3 : Int32)) hx hb dX0_weeks_29 (by decide) ?_
      exact zr_i hx hb hr hlk rfl hP hD hS (f, fln, twn) [0, 1, 2, 3, 4, 5, 6, 7, 8] rfl (by decide) dX0_weeks_31 h
  · have h := h.1 c_2
    refine lv_iconst (v := (-1 : Int32)) hx hb dX0_weeks_12 (by decide) ?_
    exact zr_i hx hb hr hlk rfl hP hD hS (f, fln, twn) [0, 1, 2, 3, 4, 5, 6, 7, 8] rfl (by decide) dX0_weeks_13 h
def wpX0_runs (f : Nat → Int32) (fln : Nat → Int32) (twn : Nat → Int32) (fxn : Nat → Int32) (flt : Nat → Int32) (twt : Nat → Int32) (fxt : Nat → Int32) (p1 : Int32) (p2 : Int32) (Q : Int32 → (Nat → Int32) → (Nat → Int32) → (Nat → Int32) → (Nat → Int32) → Prop) : Prop :=
  (wpX0_isFar p1 (fun r_1 => ((r_1 = 0 → Q (-1 : Int32) f flt twt fxt) ∧ (¬ r_1 = 0 → (wpX0_in (p2.toInt64) (0 : Int64) (3 : Int64) (fun r_3 => ((r_3 = 0 → Q (-1 : Int32) f flt twt fxt) ∧ (¬ r_3 = 0 → (wpX5_as flt twt fxt fln twn fxn (fun flt_6 twt_7 fxt_8 => (wpX0_weeksGo f flt_6 twt_7 fxt_8 p1 (fun f_10 flt_11 twt_12 => ((p2 = 0 → Q (f_10 7) f_10 flt_11 twt_12 fxt_8) ∧ (¬ p2 = 0 → ((p2 = (1 : Int32) → Q (f_10 8) f_10 flt_11 twt_12 fxt_8) ∧ (¬ p2 = (1 : Int32) → ((p2 = (2 : Int32) → (wpX5_sumOf flt_11 twt_12 (3 : Int32) (fun r_17 => Q r_17 f_10 flt_11 twt_12 fxt_8))) ∧ (¬ p2 = (2 : Int32) → (wpX5_beaten flt_11 twt_12 (fun r_16 => Q r_16 f_10 flt_11 twt_12 fxt_8))))))))))))))))))))
set_option maxHeartbeats 4000000 in
theorem metX0_runs (l : Launch) (D : va_G) (kk : Nat → ClassId) (ad : Nat → Nat) (sz : Nat) (f : Nat → Int32) (g : Nat → Int64) (fln : Nat → Int32) (twn : Nat → Int32) (fxn : Nat → Int32) (flt : Nat → Int32) (twt : Nat → Int32) (fxt : Nat → Int32) (p1 : Int32) (p2 : Int32) (Q : Int32 → (Nat → Int32) → (Nat → Int32) → (Nat → Int32) → (Nat → Int32) → Prop) (h : wpX0_runs f fln twn fxn flt twt fxt p1 p2 Q) : Met l yX0_runs (ws_ yX0_runs cX0_runs 3 (some .int)) { frames := 8, cells := 0, slots := 0, locals := 183 } (va_Pc ([.ref (ad 0), .int p1, .int p2] : List Value) (zPc D kk [zO ad f g, zQ (kk 4) (ad 1) 4 (zKf ad), zJ (ad 2) 1, zJ (ad 3) 2, zJ (ad 4) 3, zJ (ad 5) 4, zL (ad 6) (ad 7) (ad 8) fln, zA (kk 0) (ad 7) 20 twn, zA (kk 0) (ad 8) 20 fxn, zL (ad 9) (ad 10) (ad 11) flt, zA (kk 0) (ad 10) 20 twt, zA (kk 0) (ad 11) 20 fxt] sz)) (va_Qi (fun (r : Int32) (u : (Nat → Int32) × (Nat → Int32) × (Nat → Int32) × (Nat → Int32)) => Q r u.1 u.2.1 u.2.2.1 u.2.2.2) (zB D (va_A [zO ad f g, zQ (kk 4) (ad 1) 4 (zKf ad), zJ (ad 2) 1, zJ (ad 3) 2, zJ (ad 4) 3, zJ (ad 5) 4, zL (ad 6) (ad 7) (ad 8) fln, zA (kk 0) (ad 7) 20 twn, zA (kk 0) (ad 8) 20 fxn, zL (ad 9) (ad 10) (ad 11) flt, zA (kk 0) (ad 10) 20 twt, zA (kk 0) (ad 11) 20 fxt] sz) (fun u : (Nat → Int32) × (Nat → Int32) × (Nat → Int32) × (Nat → Int32) => [zO ad u.1 g, zQ (kk 4) (ad 1) 4 (zKf ad), zJ (ad 2) 1, zJ (ad 3) 2, zJ (ad 4) 3, zJ (ad 5) 4, zL (ad 6) (ad 7) (ad 8) fln, zA (kk 0) (ad 7) 20 twn, zA (kk 0) (ad 8) 20 fxn, zL (ad 9) (ad 10) (ad 11) u.2.1, zA (kk 0) (ad 10) 20 u.2.2.1, zA (kk 0) (ad 11) 20 u.2.2.2])) (va_A [zO ad f g, zQ (kk 4) (ad 1) 4 (zKf ad), zJ (ad 2) 1, zJ (ad 3) 2, zJ (ad 4) 3, zJ (ad 5) 4, zL (ad 6) (ad 7) (ad 8) fln, zA (kk 0) (ad 7) 20 twn, zA (kk 0) (ad 8) 20 fxn, zL (ad 9) (ad 10) (ad 11) flt, zA (kk 0) (ad 10) 20 twt, zA (kk 0) (ad 11) 20 fxt] sz)) 0 0 (va_A [zO ad f g, zQ (kk 4) (ad 1) 4 (zKf ad), zJ (ad 2) 1, zJ (ad 3) 2, zJ (ad 4) 3, zJ (ad 5) 4, zL (ad 6) (ad 7) (ad 8) fln, zA (kk 0) (ad 7) 20 twn, zA (kk 0) (ad 8) 20 fxn, zL (ad 9) (ad 10) (ad 11) flt, zA (kk 0) (ad 10) 20 twt, zA (kk 0) (ad 11) 20 fxt] sz) := by
  refine zMet (Qc := fun A => va_Qi (fun (r : Int32) (u : (Nat → Int32) × (Nat → Int32) × (Nat → Int32) × (Nat → Int32)) => Q r u.1 u.2.1 u.2.2.1 u.2.2.2) (zB D A (fun u : (Nat → Int32) × (Nat → Int32) × (Nat → Int32) × (Nat → Int32) => [zO ad u.1 g, zQ (kk 4) (ad 1) 4 (zKf ad), zJ (ad 2) 1, zJ (ad 3) 2, zJ (ad 4) 3, zJ (ad 5) 4, zL (ad 6) (ad 7) (ad 8) fln, zA (kk 0) (ad 7) 20 twn, zA (kk 0) (ad 8) 20 fxn, zL (ad 9) (ad 10) (ad 11) u.2.1, zA (kk 0) (ad 10) 20 u.2.2.1, zA (kk 0) (ad 11) 20 u.2.2.2])) A) (by decide) (Nat.le_of_ble_eq_true rfl) ?_
  intro p e s m below meth c A X hP hD hS ls hl
  obtain ⟨hx, hb, hr, hml, hown, hts, hlk, hnm, hK, hN, hA⟩ := X
  have hown : s.vm.findClass "LoseLeague" = some m.cls := hown
  have hl : lv_has ls 3 [(0, .ref (ad 0)), (1, .int p1), (2, .int p2)] := hl
  unfold wpX0_runs at h
  refine lv_iload_n hx hb dX0_runs_0 rfl (lv_at hl 1 rfl) ?_
  refine zc_i (wc := []) (wr := [zO ad f g, zQ (kk 4) (ad 1) 4 (zKf ad), zJ (ad 2) 1, zJ (ad 3) 2, zJ (ad 4) 3, zJ (ad 5) 4, zL (ad 6) (ad 7) (ad 8) fln, zA (kk 0) (ad 7) 20 twn, zA (kk 0) (ad 8) 20 fxn, zL (ad 9) (ad 10) (ad 11) flt, zA (kk 0) (ad 10) 20 twt, zA (kk 0) (ad 11) 20 fxt]) (w1 := (fun u : Unit => [])) (rest := []) [] [0, 1, 2, 3, 4, 5, 6, 7, 8, 9, 10, 11] rfl rfl (by decide) (by decide) (by decide) hA hP hD hS (fun hP hD => va_runS (As := [.int p1]) (rest := []) ⟨hx, hb, hml, hown, hts⟩ (metX0_isFar l D kk _ p1 _ h) (va_cwS 1 hts (lw_S q656 q657 q64 q658) rfl rfl rfl pdX0_isFar.2 ⟨(Nat.le_of_ble_eq_true rfl), (Nat.le_of_ble_eq_true rfl)⟩) (zp_S hK hN hP hD) rfl rfl hl.1 rfl (lv_room (Nat.le_of_ble_eq_true rfl)) dX0_runs_1 ⟨(Nat.le_of_ble_eq_true rfl), (Nat.le_of_ble_eq_true rfl)⟩) (fun r_1 u H locs h hP hD hS => ?_)
  try dsimp only at h
  have hP : va_P D vwCl [zO ad f g, zQ (kk 4) (ad 1) 4 (zKf ad), zJ (ad 2) 1, zJ (ad 3) 2, zJ (ad 4) 3, zJ (ad 5) 4, zL (ad 6) (ad 7) (ad 8) fln, zA (kk 0) (ad 7) 20 twn, zA (kk 0) (ad 8) 20 fxn, zL (ad 9) (ad 10) (ad 11) flt, zA (kk 0) (ad 10) 20 twt, zA (kk 0) (ad 11) 20 fxt] H := hP
  have hD : va_D A [zO ad f g, zQ (kk 4) (ad 1) 4 (zKf ad), zJ (ad 2) 1, zJ (ad 3) 2, zJ (ad 4) 3, zJ (ad 5) 4, zL (ad 6) (ad 7) (ad 8) fln, zA (kk 0) (ad 7) 20 twn, zA (kk 0) (ad 8) 20 fxn, zL (ad 9) (ad 10) (ad 11) flt, zA (kk 0) (ad 10) 20 twt, zA (kk 0) (ad 11) 20 fxt] := hD
  refine lv_if_eq (tgt := 19) hx hb dX0_runs_4 (by decide) (fun c_2 => ?_) (fun c_2 => ?_)
  · have h := h.1 c_2
    refine lv_iconst (v := (-1 : Int32)) hx hb dX0_runs_19 (by decide) ?_
    exact zr_i hx hb hr hlk rfl hP hD hS (f, flt, twt, fxt) [0, 1, 2, 3, 4, 5, 6, 7, 8, 9, 10, 11] rfl (by decide) dX0_runs_20 h
  · have h := h.2 c_2
    refine lv_iload_n hx hb dX0_runs_7 rfl (lv_at hl 2 rfl) ?_
    refine lv_i2l hx hb dX0_runs_8 rfl ?_
    refine lv_lconst (v := (0 : Int64)) hx hb dX0_runs_9 (by decide) ?_
    refine lv_ldc2 (v := (3 : Int64)) hx hb hown (hts _ q575) dX0_runs_10 ?_
    refine zc_i (wc := []) (wr := [zO ad f g, zQ (kk 4) (ad 1) 4 (zKf ad), zJ (ad 2) 1, zJ (ad 3) 2, zJ (ad 4) 3, zJ (ad 5) 4, zL (ad 6) (ad 7) (ad 8) fln, zA (kk 0) (ad 7) 20 twn, zA (kk 0) (ad 8) 20 fxn, zL (ad 9) (ad 10) (ad 11) flt, zA (kk 0) (ad 10) 20 twt, zA (kk 0) (ad 11) 20 fxt]) (w1 := (fun u : Unit => [])) (rest := []) [] [0, 1, 2, 3, 4, 5, 6, 7, 8, 9, 10, 11] rfl rfl (by decide) (by decide) (by decide) hA hP hD hS (fun hP hD => va_runS (As := [.long (p2.toInt64), .long (0 : Int64), .long (3 : Int64)]) (rest := []) ⟨hx, hb, hml, hown, hts⟩ (metX0_in l D kk _ (p2.toInt64) (0 : Int64) (3 : Int64) _ h) (va_cwS 3 hts (lw_S q254 q255 q64 q256) rfl rfl rfl pdX0_in.2 ⟨(Nat.le_of_ble_eq_true rfl), (Nat.le_of_ble_eq_true rfl)⟩) (zp_S hK hN hP hD) rfl rfl hl.1 rfl (lv_room (Nat.le_of_ble_eq_true rfl)) dX0_runs_13 ⟨(Nat.le_of_ble_eq_true rfl), (Nat.le_of_ble_eq_true rfl)⟩) (fun r_3 u H locs h hP hD hS => ?_)
    try dsimp only at h
    have hP : va_P D vwCl [zO ad f g, zQ (kk 4) (ad 1) 4 (zKf ad), zJ (ad 2) 1, zJ (ad 3) 2, zJ (ad 4) 3, zJ (ad 5) 4, zL (ad 6) (ad 7) (ad 8) fln, zA (kk 0) (ad 7) 20 twn, zA (kk 0) (ad 8) 20 fxn, zL (ad 9) (ad 10) (ad 11) flt, zA (kk 0) (ad 10) 20 twt, zA (kk 0) (ad 11) 20 fxt] H := hP
    have hD : va_D A [zO ad f g, zQ (kk 4) (ad 1) 4 (zKf ad), zJ (ad 2) 1, zJ (ad 3) 2, zJ (ad 4) 3, zJ (ad 5) 4, zL (ad 6) (ad 7) (ad 8) fln, zA (kk 0) (ad 7) 20 twn, zA (kk 0) (ad 8) 20 fxn, zL (ad 9) (ad 10) (ad 11) flt, zA (kk 0) (ad 10) 20 twt, zA (kk 0) (ad 11) 20 fxt] := hD
    refine lv_if_ne (tgt := 21) hx hb dX0_runs_16 (by decide) (fun c_4 => ?_) (fun c_4 => ?_)
    · have h := h.2 c_4
      refine lv_aload_n hx hb dX0_runs_21 rfl (lv_at hl 0 rfl) ?_
      refine va_get (D := D) (ci := 0) (v := .ref (ad 9)) (C := RX0) (T := TX0) (N := 25) hx hb hts in_X0 hown hK hP 0 rfl rfl 2 (Nat.le_of_ble_eq_true rfl) (hts _ q174) (fun _ h9 => h9) rfl dX0_runs_22 ?_
      refine lv_aload_n hx hb dX0_runs_25 rfl (lv_at hl 0 rfl) ?_
      refine va_get (D := D) (ci := 0) (v := .ref (ad 6)) (C := RX0) (T := TX0) (N := 25) hx hb hts in_X0 hown hK hP 0 rfl rfl 1 (Nat.le_of_ble_eq_true rfl) (hts _ q173) (fun _ h9 => h9) rfl dX0_runs_26 ?_
      have hrc := va_recv hK hP (ci := 5) (q0 := 9) rfl rfl
      refine zc_v (wc := [zL (ad 9) (ad 10) (ad 11) flt, zA (kk 0) (ad 10) 20 twt, zA (kk 0) (ad 11) 20 fxt, zL (ad 6) (ad 7) (ad 8) fln, zA (kk 0) (ad 7) 20 twn, zA (kk 0) (ad 8) 20 fxn]) (wr := [zO ad f g, zQ (kk 4) (ad 1) 4 (zKf ad), zJ (ad 2) 1, zJ (ad 3) 2, zJ (ad 4) 3, zJ (ad 5) 4]) (w1 := (fun u : (Nat → Int32) × (Nat → Int32) × (Nat → Int32) => [zL (ad 9) (ad 10) (ad 11) u.1, zA (kk 0) (ad 10) 20 u.2.1, zA (kk 0) (ad 11) 20 u.2.2, zL (ad 6) (ad 7) (ad 8) fln, zA (kk 0) (ad 7) 20 twn, zA (kk 0) (ad 8) 20 fxn])) (rest := []) [9, 10, 11, 6, 7, 8] [0, 1, 2, 3, 4, 5] rfl rfl (by decide) (by decide) (by decide) hA hP hD hS (fun hP hD => va_runV (As := [.ref (ad 6)]) (rest := []) ⟨hx, hb, hml, hown, hts⟩ (metX5_as l D kk (ad 9) (ad 10) (ad 11) (ad 6) (ad 7) (ad 8) _ flt twt fxt fln twn fxn _ h) (cwV 1 hts (lw_V q489 q490 q491 q69 q492) rfl rfl rfl pdX5_as ⟨(Nat.le_of_ble_eq_true rfl), (Nat.le_of_ble_eq_true rfl)⟩) (zp_V hK hN hrc hP hD) rfl rfl hl.1 rfl (lv_room (Nat.le_of_ble_eq_true rfl)) dX0_runs_29 ⟨(Nat.le_of_ble_eq_true rfl), (Nat.le_of_ble_eq_true rfl)⟩) (fun u H locs h hP hD hS => ?_)
      obtain ⟨flt_6, twt_7, fxt_8⟩ := u
      try dsimp only at h
      have hP : va_P D vwCl [zO ad f g, zQ (kk 4) (ad 1) 4 (zKf ad), zJ (ad 2) 1, zJ (ad 3) 2, zJ (ad 4) 3, zJ (ad 5) 4, zL (ad 9) (ad 10) (ad 11) flt_6, zA (kk 0) (ad 10) 20 twt_7, zA (kk 0) (ad 11) 20 fxt_8, zL (ad 6) (ad 7) (ad 8) fln, zA (kk 0) (ad 7) 20 twn, zA (kk 0) (ad 8) 20 fxn] H := hP
      have hD : va_D A [zO ad f g, zQ (kk 4) (ad 1) 4 (zKf ad), zJ (ad 2) 1, zJ (ad 3) 2, zJ (ad 4) 3, zJ (ad 5) 4, zL (ad 9) (ad 10) (ad 11) flt_6, zA (kk 0) (ad 10) 20 twt_7, zA (kk 0) (ad 11) 20 fxt_8, zL (ad 6) (ad 7) (ad 8) fln, zA (kk 0) (ad 7) 20 twn, zA (kk 0) (ad 8) 20 fxn] := hD
      refine lv_aload_n hx hb dX0_runs_32 rfl (lv_at hl 0 rfl) ?_
      refine lv_aload_n hx hb dX0_runs_33 rfl (lv_at hl 0 rfl) ?_
      refine va_get (D := D) (ci := 0) (v := .ref (ad 9)) (C := RX0) (T := TX0) (N := 25) hx hb hts in_X0 hown hK hP 0 rfl rfl 2 (Nat.le_of_ble_eq_true rfl) (hts _ q174) (fun _ h9 => h9) rfl dX0_runs_34 ?_
      refine lv_iload_n hx hb dX0_runs_37 rfl (lv_at hl 1 rfl) ?_
      have hrc := va_recv hK hP (ci := 0) (q0 := 0) rfl rfl
      refine zc_v (wc := [zO ad f g, zQ (kk 4) (ad 1) 4 (zKf ad), zJ (ad 2) 1, zJ (ad 3) 2, zJ (ad 4) 3, zJ (ad 5) 4, zL (ad 9) (ad 10) (ad 11) flt_6, zA (kk 0) (ad 10) 20 twt_7, zA (kk 0) (ad 11) 20 fxt_8]) (wr := [zL (ad 6) (ad 7) (ad 8) fln, zA (kk 0) (ad 7) 20 twn, zA (kk 0) (ad 8) 20 fxn]) (w1 := (fun u : (Nat → Int32) × (Nat → Int32) × (Nat → Int32) => [zO ad u.1 g, zQ (kk 4) (ad 1) 4 (zKf ad), zJ (ad 2) 1, zJ (ad 3) 2, zJ (ad 4) 3, zJ (ad 5) 4, zL (ad 9) (ad 10) (ad 11) u.2.1, zA (kk 0) (ad 10) 20 u.2.2, zA (kk 0) (ad 11) 20 fxt_8])) (rest := []) [0, 1, 2, 3, 4, 5, 6, 7, 8] [9, 10, 11] rfl rfl (by decide) (by decide) (by decide) hA hP hD hS (fun hP hD => va_runV (As := [.ref (ad 9), .int p1]) (rest := []) ⟨hx, hb, hml, hown, hts⟩ (metX0_weeksGo l D kk ad (ad 9) (ad 10) (ad 11) _ f g flt_6 twt_7 fxt_8 p1 _ h) (cwV 2 hts (lw_V q603 q605 qs15 q64 q606) rfl rfl rfl pdX0_weeksGo ⟨(Nat.le_of_ble_eq_true rfl), (Nat.le_of_ble_eq_true rfl)⟩) (zp_V hK hN hrc hP hD) rfl rfl hl.1 rfl (lv_room (Nat.le_of_ble_eq_true rfl)) dX0_runs_38 ⟨(Nat.le_of_ble_eq_true rfl), (Nat.le_of_ble_eq_true rfl)⟩) (fun u H locs h hP hD hS => ?_)
      obtain ⟨f_10, flt_11, twt_12⟩ := u
      try dsimp only at h
      have hP : va_P D vwCl [zL (ad 6) (ad 7) (ad 8) fln, zA (kk 0) (ad 7) 20 twn, zA (kk 0) (ad 8) 20 fxn, zO ad f_10 g, zQ (kk 4) (ad 1) 4 (zKf ad), zJ (ad 2) 1, zJ (ad 3) 2, zJ (ad 4) 3, zJ (ad 5) 4, zL (ad 9) (ad 10) (ad 11) flt_11, zA (kk 0) (ad 10) 20 twt_12, zA (kk 0) (ad 11) 20 fxt_8] H := hP
      have hD : va_D A [zL (ad 6) (ad 7) (ad 8) fln, zA (kk 0) (ad 7) 20 twn, zA (kk 0) (ad 8) 20 fxn, zO ad f_10 g, zQ (kk 4) (ad 1) 4 (zKf ad), zJ (ad 2) 1, zJ (ad 3) 2, zJ (ad 4) 3, zJ (ad 5) 4, zL (ad 9) (ad 10) (ad 11) flt_11, zA (kk 0) (ad 10) 20 twt_12, zA (kk 0) (ad 11) 20 fxt_8] := hD
      refine lv_iload_n hx hb dX0_runs_41 rfl (lv_at hl 2 rfl) ?_
      refine lv_if_ne (tgt := 52) hx hb dX0_runs_42 (by decide) (fun c_13 => ?_) (fun c_13 => ?_)
      · have h := h.2 c_13
        refine lv_iload_n hx hb dX0_runs_52 rfl (lv_at hl 2 rfl) ?_
        refine lv_iconst (v := (1 : Int32)) hx hb dX0_runs_53 (by decide) ?_
        refine lv_icmp_ne (tgt := 64) hx hb dX0_runs_54 (by decide) (fun c_14 => ?_) (fun c_14 => ?_)
        · have h := h.2 c_14
          refine lv_iload_n hx hb dX0_runs_64 rfl (lv_at hl 2 rfl) ?_
          refine lv_iconst (v := (2 : Int32)) hx hb dX0_runs_65 (by decide) ?_
          refine lv_icmp_ne (tgt := 80) hx hb dX0_runs_66 (by decide) (fun c_15 => ?_) (fun c_15 => ?_)
          · have h := h.2 c_15
            refine lv_aload_n hx hb dX0_runs_80 rfl (lv_at hl 0 rfl) ?_
            refine va_get (D := D) (ci := 0) (v := .ref (ad 9)) (C := RX0) (T := TX0) (N := 25) hx hb hts in_X0 hown hK hP 3 rfl rfl 2 (Nat.le_of_ble_eq_true rfl) (hts _ q174) (fun _ h9 => h9) rfl dX0_runs_81 ?_
            have hrc := va_recv hK hP (ci := 5) (q0 := 9) rfl rfl
            refine zc_i (wc := [zL (ad 9) (ad 10) (ad 11) flt_11, zA (kk 0) (ad 10) 20 twt_12, zA (kk 0) (ad 11) 20 fxt_8]) (wr := [zL (ad 6) (ad 7) (ad 8) fln, zA (kk 0) (ad 7) 20 twn, zA (kk 0) (ad 8) 20 fxn, zO ad f_10 g, zQ (kk 4) (ad 1) 4 (zKf ad), zJ (ad 2) 1, zJ (ad 3) 2, zJ (ad 4) 3, zJ (ad 5) 4]) (w1 := (fun u : Unit => [zL (ad 9) (ad 10) (ad 11) flt_11, zA (kk 0) (ad 10) 20 twt_12, zA (kk 0) (ad 11) 20 fxt_8])) (rest := []) [9, 10, 11] [0, 1, 2, 3, 4, 5, 6, 7, 8] rfl rfl (by decide) (by decide) (by decide) hA hP hD hS (fun hP hD => va_runV (As := []) (rest := []) ⟨hx, hb, hml, hown, hts⟩ (metX5_beaten l D kk (ad 9) (ad 10) (ad 11) _ flt_11 twt_12 fxt_8 _ h) (cwV 0 hts (lw_V q508 q509 q510 q69 q511) rfl rfl rfl pdX5_beaten ⟨(Nat.le_of_ble_eq_true rfl), (Nat.le_of_ble_eq_true rfl)⟩) (zp_V hK hN hrc hP hD) rfl rfl hl.1 rfl (lv_room (Nat.le_of_ble_eq_true rfl)) dX0_runs_84 ⟨(Nat.le_of_ble_eq_true rfl), (Nat.le_of_ble_eq_true rfl)⟩) (fun r_16 u H locs h hP hD hS => ?_)
            try dsimp only at h
            have hP : va_P D vwCl [zL (ad 6) (ad 7) (ad 8) fln, zA (kk 0) (ad 7) 20 twn, zA (kk 0) (ad 8) 20 fxn, zO ad f_10 g, zQ (kk 4) (ad 1) 4 (zKf ad), zJ (ad 2) 1, zJ (ad 3) 2, zJ (ad 4) 3, zJ (ad 5) 4, zL (ad 9) (ad 10) (ad 11) flt_11, zA (kk 0) (ad 10) 20 twt_12, zA (kk 0) (ad 11) 20 fxt_8] H := hP
            have hD : va_D A [zL (ad 6) (ad 7) (ad 8) fln, zA (kk 0) (ad 7) 20 twn, zA (kk 0) (ad 8) 20 fxn, zO ad f_10 g, zQ (kk 4) (ad 1) 4 (zKf ad), zJ (ad 2) 1, zJ (ad 3) 2, zJ (ad 4) 3, zJ (ad 5) 4, zL (ad 9) (ad 10) (ad 11) flt_11, zA (kk 0) (ad 10) 20 twt_12, zA (kk 0) (ad 11) 20 fxt_8] := hD
            exact zr_i hx hb hr hlk rfl hP hD hS (f_10, flt_11, twt_12, fxt_8) [3, 4, 5, 6, 7, 8, 0, 1, 2, 9, 10, 11] rfl (by decide) dX0_runs_87 h
          · have h := h.1 c_15
            refine lv_aload_n hx hb dX0_runs_69 rfl (lv_at hl 0 rfl) ?_
            refine va_get (D := D) (ci := 0) (v := .ref (ad 9)) (C := RX0) (T := TX0) (N := 25) hx hb hts in_X0 hown hK hP 3 rfl rfl 2 (Nat.le_of_ble_eq_true rfl) (hts _ q174) (fun _ h9 => h9) rfl dX0_runs_70 ?_
            refine lv_iconst (v := (3 : Int32)) hx hb dX0_runs_73 (by decide) ?_
            have hrc := va_recv hK hP (ci := 5) (q0 := 9) rfl rfl
            refine zc_i (wc := [zL (ad 9) (ad 10) (ad 11) flt_11, zA (kk 0) (ad 10) 20 twt_12, zA (kk 0) (ad 11) 20 fxt_8]) (wr := [zL (ad 6) (ad 7) (ad 8) fln, zA (kk 0) (ad 7) 20 twn, zA (kk 0) (ad 8) 20 fxn, zO ad f_10 g, zQ (kk 4) (ad 1) 4 (zKf ad), zJ (ad 2) 1, zJ (ad 3) 2, zJ (ad 4) 3, zJ (ad 5) 4]) (w1 := (fun u : Unit => [zL (ad 9) (ad 10) (ad 11) flt_11, zA (kk 0) (ad 10) 20 twt_12, zA (kk 0) (ad 11) 20 fxt_8])) (rest := []) [9, 10, 11] [0, 1, 2, 3, 4, 5, 6, 7, 8] rfl rfl (by decide) (by decide) (by decide) hA hP hD hS (fun hP hD => va_runV (As := [.int (3 : Int32)]) (rest := []) ⟨hx, hb, hml, hown, hts⟩ (metX5_sumOf l D kk (ad 9) (ad 10) (ad 11) _ flt_11 twt_12 fxt_8 (3 : Int32) _ h) (cwV 1 hts (lw_V q516 q517 q518 q69 q519) rfl rfl rfl pdX5_sumOf ⟨(Nat.le_of_ble_eq_true rfl), (Nat.le_of_ble_eq_true rfl)⟩) (zp_V hK hN hrc hP hD) rfl rfl hl.1 rfl (lv_room (Nat.le_of_ble_eq_true rfl)) dX0_runs_74 ⟨(Nat.le_of_ble_eq_true rfl), (Nat.le_of_ble_eq_true rfl)⟩) (fun r_17 u H locs h hP hD hS => ?_)
            try dsimp only at h
            have hP : va_P D vwCl [zL (ad 6) (ad 7) (ad 8) fln, zA (kk 0) (ad 7) 20 twn, zA (kk 0) (ad 8) 20 fxn, zO ad f_10 g, zQ (kk 4) (ad 1) 4 (zKf ad), zJ (ad 2) 1, zJ (ad 3) 2, zJ (ad 4) 3, zJ (ad 5) 4, zL (ad 9) (ad 10) (ad 11) flt_11, zA (kk 0) (ad 10) 20 twt_12, zA (kk 0) (ad 11) 20 fxt_8] H := hP
            have hD : va_D A [zL (ad 6) (ad 7) (ad 8) fln, zA (kk 0) (ad 7) 20 twn, zA (kk 0) (ad 8) 20 fxn, zO ad f_10 g, zQ (kk 4) (ad 1) 4 (zKf ad), zJ (ad 2) 1, zJ (ad 3) 2, zJ (ad 4) 3, zJ (ad 5) 4, zL (ad 9) (ad 10) (ad 11) flt_11, zA (kk 0) (ad 10) 20 twt_12, zA (kk 0) (ad 11) 20 fxt_8] := hD
            refine lv_goto (tgt := 87) hx hb dX0_runs_77 (by decide) ?_
            exact zr_i hx hb hr hlk rfl hP hD hS (f_10, flt_11, twt_12, fxt_8) [3, 4, 5, 6, 7, 8, 0, 1, 2, 9, 10, 11] rfl (by decide) dX0_runs_87 h
        · have h := h.1 c_14
          refine lv_aload_n hx hb dX0_runs_57 rfl (lv_at hl 0 rfl) ?_
          refine va_get (D := D) (ci := 0) (v := .int (f_10 8)) (C := RX0) (T := TX0) (N := 25) hx hb hts in_X0 hown hK hP 3 rfl rfl 8 (Nat.le_of_ble_eq_true rfl) (hts _ q180) (fun _ h9 => h9) rfl dX0_runs_58 ?_
          refine lv_goto (tgt := 87) hx hb dX0_runs_61 (by decide) ?_
          exact zr_i hx hb hr hlk rfl hP hD hS (f_10, flt_11, twt_12, fxt_8) [3, 4, 5, 6, 7, 8, 0, 1, 2, 9, 10, 11] rfl (by decide) dX0_runs_87 h
      · have h := h.1 c_13
        refine lv_aload_n hx hb dX0_runs_45 rfl (lv_at hl 0 rfl) ?_
        refine va_get (D := D) (ci := 0) (v := .int (f_10 7)) (C := RX0) (T := TX0) (N := 25) hx hb hts in_X0 hown hK hP 3 rfl rfl 7 (Nat.le_of_ble_eq_true rfl) (hts _ q179) (fun _ h9 => h9) rfl dX0_runs_46 ?_
        refine lv_goto (tgt := 87) hx hb dX0_runs_49 (by decide) ?_
        exact zr_i hx hb hr hlk rfl hP hD hS (f_10, flt_11, twt_12, fxt_8) [3, 4, 5, 6, 7, 8, 0, 1, 2, 9, 10, 11] rfl (by decide) dX0_runs_87 h
    · have h := h.1 c_4
      refine lv_iconst (v := (-1 : Int32)) hx hb dX0_runs_19 (by decide) ?_
      exact zr_i hx hb hr hlk rfl hP hD hS (f, flt, twt, fxt) [0, 1, 2, 3, 4, 5, 6, 7, 8, 9, 10, 11] rfl (by decide) dX0_runs_20 h
def wpX0_ahead (f : Nat → Int32) (fln : Nat → Int32) (twn : Nat → Int32) (fxn : Nat → Int32) (flt : Nat → Int32) (twt : Nat → Int32) (fxt : Nat → Int32) (p1 : Int32) (p2 : Int32) (p3 : Int32) (Q : Int32 → (Nat → Int32) → (Nat → Int32) → (Nat → Int32) → (Nat → Int32) → Prop) : Prop :=
  (wpX0_isTown fln p1 (fun r_1 => ((r_1 = 0 → Q (-1 : Int32) f flt twt fxt) ∧ (¬ r_1 = 0 → (wpX0_isFar p2 (fun r_3 => ((r_3 = 0 → Q (-1 : Int32) f flt twt fxt) ∧ (¬ r_3 = 0 → (wpX0_in (p3.toInt64) (0 : Int64) (2 : Int64) (fun r_5 => ((r_5 = 0 → Q (-1 : Int32) f flt twt fxt) ∧ (¬ r_5 = 0 → (wpX5_as flt twt fxt fln twn fxn (fun flt_8 twt_9 fxt_10 => (wpX0_weeksGo f flt_8 twt_9 fxt_10 p2 (fun f_12 flt_13 twt_14 => (wpX5_of twt_14 p1 ((1 : Int32) + p3) (fun r_15 => Q r_15 f_12 flt_13 twt_14 fxt_10))))))))))))))))))
set_option maxHeartbeats 4000000 in
theorem metX0_ahead (l : Launch) (D : va_G) (kk : Nat → ClassId) (ad : Nat → Nat) (sz : Nat) (f : Nat → Int32) (g : Nat → Int64) (fln : Nat → Int32) (twn : Nat → Int32) (fxn : Nat → Int32) (flt : Nat → Int32) (twt : Nat → Int32) (fxt : Nat → Int32) (p1 : Int32) (p2 : Int32) (p3 : Int32) (Q : Int32 → (Nat → Int32) → (Nat → Int32) → (Nat → Int32) → (Nat → Int32) → Prop) (h : wpX0_ahead f fln twn fxn flt twt fxt p1 p2 p3 Q) : Met l yX0_ahead (ws_ yX0_ahead cX0_ahead 4 (some .int)) { frames := 8, cells := 0, slots := 0, locals := 183 } (va_Pc ([.ref (ad 0), .int p1, .int p2, .int p3] : List Value) (zPc D kk [zO ad f g, zQ (kk 4) (ad 1) 4 (zKf ad), zJ (ad 2) 1, zJ (ad 3) 2, zJ (ad 4) 3, zJ (ad 5) 4, zL (ad 6) (ad 7) (ad 8) fln, zA (kk 0) (ad 7) 20 twn, zA (kk 0) (ad 8) 20 fxn, zL (ad 9) (ad 10) (ad 11) flt, zA (kk 0) (ad 10) 20 twt, zA (kk 0) (ad 11) 20 fxt] sz)) (va_Qi (fun (r : Int32) (u : (Nat → Int32) × (Nat → Int32) × (Nat → Int32) × (Nat → Int32)) => Q r u.1 u.2.1 u.2.2.1 u.2.2.2) (zB D (va_A [zO ad f g, zQ (kk 4) (ad 1) 4 (zKf ad), zJ (ad 2) 1, zJ (ad 3) 2, zJ (ad 4) 3, zJ (ad 5) 4, zL (ad 6) (ad 7) (ad 8) fln, zA (kk 0) (ad 7) 20 twn, zA (kk 0) (ad 8) 20 fxn, zL (ad 9) (ad 10) (ad 11) flt, zA (kk 0) (ad 10) 20 twt, zA (kk 0) (ad 11) 20 fxt] sz) (fun u : (Nat → Int32) × (Nat → Int32) × (Nat → Int32) × (Nat → Int32) => [zO ad u.1 g, zQ (kk 4) (ad 1) 4 (zKf ad), zJ (ad 2) 1, zJ (ad 3) 2, zJ (ad 4) 3, zJ (ad 5) 4, zL (ad 6) (ad 7) (ad 8) fln, zA (kk 0) (ad 7) 20 twn, zA (kk 0) (ad 8) 20 fxn, zL (ad 9) (ad 10) (ad 11) u.2.1, zA (kk 0) (ad 10) 20 u.2.2.1, zA (kk 0) (ad 11) 20 u.2.2.2])) (va_A [zO ad f g, zQ (kk 4) (ad 1) 4 (zKf ad), zJ (ad 2) 1, zJ (ad 3) 2, zJ (ad 4) 3, zJ (ad 5) 4, zL (ad 6) (ad 7) (ad 8) fln, zA (kk 0) (ad 7) 20 twn, zA (kk 0) (ad 8) 20 fxn, zL (ad 9) (ad 10) (ad 11) flt, zA (kk 0) (ad 10) 20 twt, zA (kk 0) (ad 11) 20 fxt] sz)) 0 0 (va_A [zO ad f g, zQ (kk 4) (ad 1) 4 (zKf ad), zJ (ad 2) 1, zJ (ad 3) 2, zJ (ad 4) 3, zJ (ad 5) 4, zL (ad 6) (ad 7) (ad 8) fln, zA (kk 0) (ad 7) 20 twn, zA (kk 0) (ad 8) 20 fxn, zL (ad 9) (ad 10) (ad 11) flt, zA (kk 0) (ad 10) 20 twt, zA (kk 0) (ad 11) 20 fxt] sz) := by
  refine zMet (Qc := fun A => va_Qi (fun (r : Int32) (u : (Nat → Int32) × (Nat → Int32) × (Nat → Int32) × (Nat → Int32)) => Q r u.1 u.2.1 u.2.2.1 u.2.2.2) (zB D A (fun u : (Nat → Int32) × (Nat → Int32) × (Nat → Int32) × (Nat → Int32) => [zO ad u.1 g, zQ (kk 4) (ad 1) 4 (zKf ad), zJ (ad 2) 1, zJ (ad 3) 2, zJ (ad 4) 3, zJ (ad 5) 4, zL (ad 6) (ad 7) (ad 8) fln, zA (kk 0) (ad 7) 20 twn, zA (kk 0) (ad 8) 20 fxn, zL (ad 9) (ad 10) (ad 11) u.2.1, zA (kk 0) (ad 10) 20 u.2.2.1, zA (kk 0) (ad 11) 20 u.2.2.2])) A) (by decide) (Nat.le_of_ble_eq_true rfl) ?_
  intro p e s m below meth c A X hP hD hS ls hl
  obtain ⟨hx, hb, hr, hml, hown, hts, hlk, hnm, hK, hN, hA⟩ := X
  have hown : s.vm.findClass "LoseLeague" = some m.cls := hown
  have hl : lv_has ls 4 [(0, .ref (ad 0)), (1, .int p1), (2, .int p2), (3, .int p3)] := hl
  unfold wpX0_ahead at h
  refine lv_aload_n hx hb dX0_ahead_0 rfl (lv_at hl 0 rfl) ?_
  refine lv_iload_n hx hb dX0_ahead_1 rfl (lv_at hl 1 rfl) ?_
  have hrc := va_recv hK hP (ci := 0) (q0 := 0) rfl rfl
  refine zc_i (wc := [zO ad f g, zL (ad 6) (ad 7) (ad 8) fln, zA (kk 0) (ad 7) 20 twn, zA (kk 0) (ad 8) 20 fxn]) (wr := [zQ (kk 4) (ad 1) 4 (zKf ad), zJ (ad 2) 1, zJ (ad 3) 2, zJ (ad 4) 3, zJ (ad 5) 4, zL (ad 9) (ad 10) (ad 11) flt, zA (kk 0) (ad 10) 20 twt, zA (kk 0) (ad 11) 20 fxt]) (w1 := (fun u : Unit => [zO ad f g, zL (ad 6) (ad 7) (ad 8) fln, zA (kk 0) (ad 7) 20 twn, zA (kk 0) (ad 8) 20 fxn])) (rest := []) [0, 6, 7, 8] [1, 2, 3, 4, 5, 9, 10, 11] rfl rfl (by decide) (by decide) (by decide) hA hP hD hS (fun hP hD => va_runV (As := [.int p1]) (rest := []) ⟨hx, hb, hml, hown, hts⟩ (metX0_isTown l D kk ad _ f g fln twn fxn p1 _ h) (cwV 1 hts (lw_V q524 q526 qs10 q64 q527) rfl rfl rfl pdX0_isTown ⟨(Nat.le_of_ble_eq_true rfl), (Nat.le_of_ble_eq_true rfl)⟩) (zp_V hK hN hrc hP hD) rfl rfl hl.1 rfl (lv_room (Nat.le_of_ble_eq_true rfl)) dX0_ahead_2 ⟨(Nat.le_of_ble_eq_true rfl), (Nat.le_of_ble_eq_true rfl)⟩) (fun r_1 u H locs h hP hD hS => ?_)
  try dsimp only at h
  have hP : va_P D vwCl [zQ (kk 4) (ad 1) 4 (zKf ad), zJ (ad 2) 1, zJ (ad 3) 2, zJ (ad 4) 3, zJ (ad 5) 4, zL (ad 9) (ad 10) (ad 11) flt, zA (kk 0) (ad 10) 20 twt, zA (kk 0) (ad 11) 20 fxt, zO ad f g, zL (ad 6) (ad 7) (ad 8) fln, zA (kk 0) (ad 7) 20 twn, zA (kk 0) (ad 8) 20 fxn] H := hP
  have hD : va_D A [zQ (kk 4) (ad 1) 4 (zKf ad), zJ (ad 2) 1, zJ (ad 3) 2, zJ (ad 4) 3, zJ (ad 5) 4, zL (ad 9) (ad 10) (ad 11) flt, zA (kk 0) (ad 10) 20 twt, zA (kk 0) (ad 11) 20 fxt, zO ad f g, zL (ad 6) (ad 7) (ad 8) fln, zA (kk 0) (ad 7) 20 twn, zA (kk 0) (ad 8) 20 fxn] := hD
  refine lv_if_eq (tgt := 27) hx hb dX0_ahead_5 (by decide) (fun c_2 => ?_) (fun c_2 => ?_)
  · have h := h.1 c_2
    refine lv_iconst (v := (-1 : Int32)) hx hb dX0_ahead_27 (by decide) ?_
    exact zr_i hx hb hr hlk rfl hP hD hS (f, flt, twt, fxt) [8, 0, 1, 2, 3, 4, 9, 10, 11, 5, 6, 7] rfl (by decide) dX0_ahead_28 h
  · have h := h.2 c_2
    refine lv_iload_n hx hb dX0_ahead_8 rfl (lv_at hl 2 rfl) ?_
    refine zc_i (wc := []) (wr := [zQ (kk 4) (ad 1) 4 (zKf ad), zJ (ad 2) 1, zJ (ad 3) 2, zJ (ad 4) 3, zJ (ad 5) 4, zL (ad 9) (ad 10) (ad 11) flt, zA (kk 0) (ad 10) 20 twt, zA (kk 0) (ad 11) 20 fxt, zO ad f g, zL (ad 6) (ad 7) (ad 8) fln, zA (kk 0) (ad 7) 20 twn, zA (kk 0) (ad 8) 20 fxn]) (w1 := (fun u : Unit => [])) (rest := []) [] [0, 1, 2, 3, 4, 5, 6, 7, 8, 9, 10, 11] rfl rfl (by decide) (by decide) (by decide) hA hP hD hS (fun hP hD => va_runS (As := [.int p2]) (rest := []) ⟨hx, hb, hml, hown, hts⟩ (metX0_isFar l D kk _ p2 _ h) (va_cwS 1 hts (lw_S q656 q657 q64 q658) rfl rfl rfl pdX0_isFar.2 ⟨(Nat.le_of_ble_eq_true rfl), (Nat.le_of_ble_eq_true rfl)⟩) (zp_S hK hN hP hD) rfl rfl hl.1 rfl (lv_room (Nat.le_of_ble_eq_true rfl)) dX0_ahead_9 ⟨(Nat.le_of_ble_eq_true rfl), (Nat.le_of_ble_eq_true rfl)⟩) (fun r_3 u H locs h hP hD hS => ?_)
    try dsimp only at h
    have hP : va_P D vwCl [zQ (kk 4) (ad 1) 4 (zKf ad), zJ (ad 2) 1, zJ (ad 3) 2, zJ (ad 4) 3, zJ (ad 5) 4, zL (ad 9) (ad 10) (ad 11) flt, zA (kk 0) (ad 10) 20 twt, zA (kk 0) (ad 11) 20 fxt, zO ad f g, zL (ad 6) (ad 7) (ad 8) fln, zA (kk 0) (ad 7) 20 twn, zA (kk 0) (ad 8) 20 fxn] H := hP
    have hD : va_D A [zQ (kk 4) (ad 1) 4 (zKf ad), zJ (ad 2) 1, zJ (ad 3) 2, zJ (ad 4) 3, zJ (ad 5) 4, zL (ad 9) (ad 10) (ad 11) flt, zA (kk 0) (ad 10) 20 twt, zA (kk 0) (ad 11) 20 fxt, zO ad f g, zL (ad 6) (ad 7) (ad 8) fln, zA (kk 0) (ad 7) 20 twn, zA (kk 0) (ad 8) 20 fxn] := hD
    refine lv_if_eq (tgt := 27) hx hb dX0_ahead_12 (by decide) (fun c_4 => ?_) (fun c_4 => ?_)
    · have h := h.1 c_4
      refine lv_iconst (v := (-1 : Int32)) hx hb dX0_ahead_27 (by decide) ?_
      exact zr_i hx hb hr hlk rfl hP hD hS (f, flt, twt, fxt) [8, 0, 1, 2, 3, 4, 9, 10, 11, 5, 6, 7] rfl (by decide) dX0_ahead_28 h
    · have h := h.2 c_4
      refine lv_iload_n hx hb dX0_ahead_15 rfl (lv_at hl 3 rfl) ?_
      refine lv_i2l hx hb dX0_ahead_16 rfl ?_
      refine lv_lconst (v := (0 : Int64)) hx hb dX0_ahead_17 (by decide) ?_
      refine lv_ldc2 (v := (2 : Int64)) hx hb hown (hts _ q664) dX0_ahead_18 ?_
      refine zc_i (wc := []) (wr := [zQ (kk 4) (ad 1) 4 (zKf ad), zJ (ad 2) 1, zJ (ad 3) 2, zJ (ad 4) 3, zJ (ad 5) 4, zL (ad 9) (ad 10) (ad 11) flt, zA (kk 0) (ad 10) 20 twt, zA (kk 0) (ad 11) 20 fxt, zO ad f g, zL (ad 6) (ad 7) (ad 8) fln, zA (kk 0) (ad 7) 20 twn, zA (kk 0) (ad 8) 20 fxn]) (w1 := (fun u : Unit => [])) (rest := []) [] [0, 1, 2, 3, 4, 5, 6, 7, 8, 9, 10, 11] rfl rfl (by decide) (by decide) (by decide) hA hP hD hS (fun hP hD => va_runS (As := [.long (p3.toInt64), .long (0 : Int64), .long (2 : Int64)]) (rest := []) ⟨hx, hb, hml, hown, hts⟩ (metX0_in l D kk _ (p3.toInt64) (0 : Int64) (2 : Int64) _ h) (va_cwS 3 hts (lw_S q254 q255 q64 q256) rfl rfl rfl pdX0_in.2 ⟨(Nat.le_of_ble_eq_true rfl), (Nat.le_of_ble_eq_true rfl)⟩) (zp_S hK hN hP hD) rfl rfl hl.1 rfl (lv_room (Nat.le_of_ble_eq_true rfl)) dX0_ahead_21 ⟨(Nat.le_of_ble_eq_true rfl), (Nat.le_of_ble_eq_true rfl)⟩) (fun r_5 u H locs h hP hD hS => ?_)
      try dsimp only at h
      have hP : va_P D vwCl [zQ (kk 4) (ad 1) 4 (zKf ad), zJ (ad 2) 1, zJ (ad 3) 2, zJ (ad 4) 3, zJ (ad 5) 4, zL (ad 9) (ad 10) (ad 11) flt, zA (kk 0) (ad 10) 20 twt, zA (kk 0) (ad 11) 20 fxt, zO ad f g, zL (ad 6) (ad 7) (ad 8) fln, zA (kk 0) (ad 7) 20 twn, zA (kk 0) (ad 8) 20 fxn] H := hP
      have hD : va_D A [zQ (kk 4) (ad 1) 4 (zKf ad), zJ (ad 2) 1, zJ (ad 3) 2, zJ (ad 4) 3, zJ (ad 5) 4, zL (ad 9) (ad 10) (ad 11) flt, zA (kk 0) (ad 10) 20 twt, zA (kk 0) (ad 11) 20 fxt, zO ad f g, zL (ad 6) (ad 7) (ad 8) fln, zA (kk 0) (ad 7) 20 twn, zA (kk 0) (ad 8) 20 fxn] := hD
      refine lv_if_ne (tgt := 29) hx hb dX0_ahead_24 (by decide) (fun c_6 => ?_) (fun c_6 => ?_)
      · have h := h.2 c_6
        refine lv_aload_n hx hb dX0_ahead_29 rfl (lv_at hl 0 rfl) ?_
        refine va_get (D := D) (ci := 0) (v := .ref (ad 9)) (C := RX0) (T := TX0) (N := 25) hx hb hts in_X0 hown hK hP 8 rfl rfl 2 (Nat.le_of_ble_eq_true rfl) (hts _ q174) (fun _ h9 => h9) rfl dX0_ahead_30 ?_
        refine lv_aload_n hx hb dX0_ahead_33 rfl (lv_at hl 0 rfl) ?_
        refine va_get (D := D) (ci := 0) (v := .ref (ad 6)) (C := RX0) (T := TX0) (N := 25) hx hb hts in_X0 hown hK hP 8 rfl rfl 1 (Nat.le_of_ble_eq_true rfl) (hts _ q173) (fun _ h9 => h9) rfl dX0_ahead_34 ?_
        have hrc := va_recv hK hP (ci := 5) (q0 := 5) rfl rfl
        refine zc_v (wc := [zL (ad 9) (ad 10) (ad 11) flt, zA (kk 0) (ad 10) 20 twt, zA (kk 0) (ad 11) 20 fxt, zL (ad 6) (ad 7) (ad 8) fln, zA (kk 0) (ad 7) 20 twn, zA (kk 0) (ad 8) 20 fxn]) (wr := [zQ (kk 4) (ad 1) 4 (zKf ad), zJ (ad 2) 1, zJ (ad 3) 2, zJ (ad 4) 3, zJ (ad 5) 4, zO ad f g]) (w1 := (fun u : (Nat → Int32) × (Nat → Int32) × (Nat → Int32) => [zL (ad 9) (ad 10) (ad 11) u.1, zA (kk 0) (ad 10) 20 u.2.1, zA (kk 0) (ad 11) 20 u.2.2, zL (ad 6) (ad 7) (ad 8) fln, zA (kk 0) (ad 7) 20 twn, zA (kk 0) (ad 8) 20 fxn])) (rest := []) [5, 6, 7, 9, 10, 11] [0, 1, 2, 3, 4, 8] rfl rfl (by decide) (by decide) (by decide) hA hP hD hS (fun hP hD => va_runV (As := [.ref (ad 6)]) (rest := []) ⟨hx, hb, hml, hown, hts⟩ (metX5_as l D kk (ad 9) (ad 10) (ad 11) (ad 6) (ad 7) (ad 8) _ flt twt fxt fln twn fxn _ h) (cwV 1 hts (lw_V q489 q490 q491 q69 q492) rfl rfl rfl pdX5_as ⟨(Nat.le_of_ble_eq_true rfl), (Nat.le_of_ble_eq_true rfl)⟩) (zp_V hK hN hrc hP hD) rfl rfl hl.1 rfl (lv_room (Nat.le_of_ble_eq_true rfl)) dX0_ahead_37 ⟨(Nat.le_of_ble_eq_true rfl), (Nat.le_of_ble_eq_true rfl)⟩) (fun u H locs h hP hD hS => ?_)
        obtain ⟨flt_8, twt_9, fxt_10⟩ := u
        try dsimp only at h
        have hP : va_P D vwCl [zQ (kk 4) (ad 1) 4 (zKf ad), zJ (ad 2) 1, zJ (ad 3) 2, zJ (ad 4) 3, zJ (ad 5) 4, zO ad f g, zL (ad 9) (ad 10) (ad 11) flt_8, zA (kk 0) (ad 10) 20 twt_9, zA (kk 0) (ad 11) 20 fxt_10, zL (ad 6) (ad 7) (ad 8) fln, zA (kk 0) (ad 7) 20 twn, zA (kk 0) (ad 8) 20 fxn] H := hP
        have hD : va_D A [zQ (kk 4) (ad 1) 4 (zKf ad), zJ (ad 2) 1, zJ (ad 3) 2, zJ (ad 4) 3, zJ (ad 5) 4, zO ad f g, zL (ad 9) (ad 10) (ad 11) flt_8, zA (kk 0) (ad 10) 20 twt_9, zA (kk 0) (ad 11) 20 fxt_10, zL (ad 6) (ad 7) (ad 8) fln, zA (kk 0) (ad 7) 20 twn, zA (kk 0) (ad 8) 20 fxn] := hD
        refine lv_aload_n hx hb dX0_ahead_40 rfl (lv_at hl 0 rfl) ?_
        refine lv_aload_n hx hb dX0_ahead_41 rfl (lv_at hl 0 rfl) ?_
        refine va_get (D := D) (ci := 0) (v := .ref (ad 9)) (C := RX0) (T := TX0) (N := 25) hx hb hts in_X0 hown hK hP 5 rfl rfl 2 (Nat.le_of_ble_eq_true rfl) (hts _ q174) (fun _ h9 => h9) rfl dX0_ahead_42 ?_
        refine lv_iload_n hx hb dX0_ahead_45 rfl (lv_at hl 2 rfl) ?_
        have hrc := va_recv hK hP (ci := 0) (q0 := 5) rfl rfl
        refine zc_v (wc := [zO ad f g, zQ (kk 4) (ad 1) 4 (zKf ad), zJ (ad 2) 1, zJ (ad 3) 2, zJ (ad 4) 3, zJ (ad 5) 4, zL (ad 9) (ad 10) (ad 11) flt_8, zA (kk 0) (ad 10) 20 twt_9, zA (kk 0) (ad 11) 20 fxt_10]) (wr := [zL (ad 6) (ad 7) (ad 8) fln, zA (kk 0) (ad 7) 20 twn, zA (kk 0) (ad 8) 20 fxn]) (w1 := (fun u : (Nat → Int32) × (Nat → Int32) × (Nat → Int32) => [zO ad u.1 g, zQ (kk 4) (ad 1) 4 (zKf ad), zJ (ad 2) 1, zJ (ad 3) 2, zJ (ad 4) 3, zJ (ad 5) 4, zL (ad 9) (ad 10) (ad 11) u.2.1, zA (kk 0) (ad 10) 20 u.2.2, zA (kk 0) (ad 11) 20 fxt_10])) (rest := []) [5, 0, 1, 2, 3, 4, 6, 7, 8] [9, 10, 11] rfl rfl (by decide) (by decide) (by decide) hA hP hD hS (fun hP hD => va_runV (As := [.ref (ad 9), .int p2]) (rest := []) ⟨hx, hb, hml, hown, hts⟩ (metX0_weeksGo l D kk ad (ad 9) (ad 10) (ad 11) _ f g flt_8 twt_9 fxt_10 p2 _ h) (cwV 2 hts (lw_V q603 q605 qs15 q64 q606) rfl rfl rfl pdX0_weeksGo ⟨(Nat.le_of_ble_eq_true rfl), (Nat.le_of_ble_eq_true rfl)⟩) (zp_V hK hN hrc hP hD) rfl rfl hl.1 rfl (lv_room (Nat.le_of_ble_eq_true rfl)) dX0_ahead_46 ⟨(Nat.le_of_ble_eq_true rfl), (Nat.le_of_ble_eq_true rfl)⟩) (fun u H locs h hP hD hS => ?_)
        obtain ⟨f_12, flt_13, twt_14⟩ := u
        try dsimp only at h
        have hP : va_P D vwCl [zL (ad 6) (ad 7) (ad 8) fln, zA (kk 0) (ad 7) 20 twn, zA (kk 0) (ad 8) 20 fxn, zO ad f_12 g, zQ (kk 4) (ad 1) 4 (zKf ad), zJ (ad 2) 1, zJ (ad 3) 2, zJ (ad 4) 3, zJ (ad 5) 4, zL (ad 9) (ad 10) (ad 11) flt_13, zA (kk 0) (ad 10) 20 twt_14, zA (kk 0) (ad 11) 20 fxt_10] H := hP
        have hD : va_D A [zL (ad 6) (ad 7) (ad 8) fln, zA (kk 0) (ad 7) 20 twn, zA (kk 0) (ad 8) 20 fxn, zO ad f_12 g, zQ (kk 4) (ad 1) 4 (zKf ad), zJ (ad 2) 1, zJ (ad 3) 2, zJ (ad 4) 3, zJ (ad 5) 4, zL (ad 9) (ad 10) (ad 11) flt_13, zA (kk 0) (ad 10) 20 twt_14, zA (kk 0) (ad 11) 20 fxt_10] := hD
        refine lv_aload_n hx hb dX0_ahead_49 rfl (lv_at hl 0 rfl) ?_
        refine va_get (D := D) (ci := 0) (v := .ref (ad 9)) (C := RX0) (T := TX0) (N := 25) hx hb hts in_X0 hown hK hP 3 rfl rfl 2 (Nat.le_of_ble_eq_true rfl) (hts _ q174) (fun _ h9 => h9) rfl dX0_ahead_50 ?_
        refine lv_iload_n hx hb dX0_ahead_53 rfl (lv_at hl 1 rfl) ?_
        refine lv_iconst (v := (1 : Int32)) hx hb dX0_ahead_54 (by decide) ?_
        refine lv_iload_n hx hb dX0_ahead_55 rfl (lv_at hl 3 rfl) ?_
        refine lv_iadd hx hb dX0_ahead_56 ?_
        have hrc := va_recv hK hP (ci := 5) (q0 := 9) rfl rfl
        refine zc_i (wc := [zL (ad 9) (ad 10) (ad 11) flt_13, zA (kk 0) (ad 10) 20 twt_14, zA (kk 0) (ad 11) 20 fxt_10]) (wr := [zL (ad 6) (ad 7) (ad 8) fln, zA (kk 0) (ad 7) 20 twn, zA (kk 0) (ad 8) 20 fxn, zO ad f_12 g, zQ (kk 4) (ad 1) 4 (zKf ad), zJ (ad 2) 1, zJ (ad 3) 2, zJ (ad 4) 3, zJ (ad 5) 4]) (w1 := (fun u : Unit => [zL (ad 9) (ad 10) (ad 11) flt_13, zA (kk 0) (ad 10) 20 twt_14, zA (kk 0) (ad 11) 20 fxt_10])) (rest := []) [9, 10, 11] [0, 1, 2, 3, 4, 5, 6, 7, 8] rfl rfl (by decide) (by decide) (by decide) hA hP hD hS (fun hP hD => va_runV (As := [.int p1, .int ((1 : Int32) + p3)]) (rest := []) ⟨hx, hb, hml, hown, hts⟩ (metX5_of l D kk (ad 9) (ad 10) (ad 11) _ flt_13 twt_14 fxt_10 p1 ((1 : Int32) + p3) _ h) (cwV 2 hts (lw_V q529 q513 q514 q69 q515) rfl rfl rfl pdX5_of ⟨(Nat.le_of_ble_eq_true rfl), (Nat.le_of_ble_eq_true rfl)⟩) (zp_V hK hN hrc hP hD) rfl rfl hl.1 rfl (lv_room (Nat.le_of_ble_eq_true rfl)) dX0_ahead_57 ⟨(Nat.le_of_ble_eq_true rfl), (Nat.le_of_ble_eq_true rfl)⟩) (fun r_15 u H locs h hP hD hS => ?_)
        try dsimp only at h
        have hP : va_P D vwCl [zL (ad 6) (ad 7) (ad 8) fln, zA (kk 0) (ad 7) 20 twn, zA (kk 0) (ad 8) 20 fxn, zO ad f_12 g, zQ (kk 4) (ad 1) 4 (zKf ad), zJ (ad 2) 1, zJ (ad 3) 2, zJ (ad 4) 3, zJ (ad 5) 4, zL (ad 9) (ad 10) (ad 11) flt_13, zA (kk 0) (ad 10) 20 twt_14, zA (kk 0) (ad 11) 20 fxt_10] H := hP
        have hD : va_D A [zL (ad 6) (ad 7) (ad 8) fln, zA (kk 0) (ad 7) 20 twn, zA (kk 0) (ad 8) 20 fxn, zO ad f_12 g, zQ (kk 4) (ad 1) 4 (zKf ad), zJ (ad 2) 1, zJ (ad 3) 2, zJ (ad 4) 3, zJ (ad 5) 4, zL (ad 9) (ad 10) (ad 11) flt_13, zA (kk 0) (ad 10) 20 twt_14, zA (kk 0) (ad 11) 20 fxt_10] := hD
        exact zr_i hx hb hr hlk rfl hP hD hS (f_12, flt_13, twt_14, fxt_10) [3, 4, 5, 6, 7, 8, 0, 1, 2, 9, 10, 11] rfl (by decide) dX0_ahead_60 h
      · have h := h.1 c_6
        refine lv_iconst (v := (-1 : Int32)) hx hb dX0_ahead_27 (by decide) ?_
        exact zr_i hx hb hr hlk rfl hP hD hS (f, flt, twt, fxt) [8, 0, 1, 2, 3, 4, 9, 10, 11, 5, 6, 7] rfl (by decide) dX0_ahead_28 h
def wpX0_loser (f : Nat → Int32) (fln : Nat → Int32) (twn : Nat → Int32) (fxn : Nat → Int32) (flt : Nat → Int32) (twt : Nat → Int32) (fxt : Nat → Int32) (p1 : Int32) (Q : Int32 → (Nat → Int32) → (Nat → Int32) → (Nat → Int32) → (Nat → Int32) → Prop) : Prop :=
  (wpX0_isFar p1 (fun r_1 => ((r_1 = 0 → Q (-1 : Int32) f flt twt fxt) ∧ (¬ r_1 = 0 → (wpX5_as flt twt fxt fln twn fxn (fun flt_4 twt_5 fxt_6 => (wpX0_weeksGo f flt_4 twt_5 fxt_6 (p1 + (1 : Int32)) (fun f_8 flt_9 twt_10 => Q (f_8 10) f_8 flt_9 twt_10 fxt_6))))))))
set_option maxHeartbeats 4000000 in
theorem metX0_loser (l : Launch) (D : va_G) (kk : Nat → ClassId) (ad : Nat → Nat) (sz : Nat) (f : Nat → Int32) (g : Nat → Int64) (fln : Nat → Int32) (twn : Nat → Int32) (fxn : Nat → Int32) (flt : Nat → Int32) (twt : Nat → Int32) (fxt : Nat → Int32) (p1 : Int32) (Q : Int32 → (Nat → Int32) → (Nat → Int32) → (Nat → Int32) → (Nat → Int32) → Prop) (h : wpX0_loser f fln twn fxn flt twt fxt p1 Q) : Met l yX0_loser (ws_ yX0_loser cX0_loser 2 (some .int)) { frames := 8, cells := 0, slots := 0, locals := 183 } (va_Pc ([.ref (ad 0), .int p1] : List Value) (zPc D kk [zO ad f g, zQ (kk 4) (ad 1) 4 (zKf ad), zJ (ad 2) 1, zJ (ad 3) 2, zJ (ad 4) 3, zJ (ad 5) 4, zL (ad 6) (ad 7) (ad 8) fln, zA (kk 0) (ad 7) 20 twn, zA (kk 0) (ad 8) 20 fxn, zL (ad 9) (ad 10) (ad 11) flt, zA (kk 0) (ad 10) 20 twt, zA (kk 0) (ad 11) 20 fxt] sz)) (va_Qi (fun (r : Int32) (u : (Nat → Int32) × (Nat → Int32) × (Nat → Int32) × (Nat → Int32)) => Q r u.1 u.2.1 u.2.2.1 u.2.2.2) (zB D (va_A [zO ad f g, zQ (kk 4) (ad 1) 4 (zKf ad), zJ (ad 2) 1, zJ (ad 3) 2, zJ (ad 4) 3, zJ (ad 5) 4, zL (ad 6) (ad 7) (ad 8) fln, zA (kk 0) (ad 7) 20 twn, zA (kk 0) (ad 8) 20 fxn, zL (ad 9) (ad 10) (ad 11) flt, zA (kk 0) (ad 10) 20 twt, zA (kk 0) (ad 11) 20 fxt] sz) (fun u : (Nat → Int32) × (Nat → Int32) × (Nat → Int32) × (Nat → Int32) => [zO ad u.1 g, zQ (kk 4) (ad 1) 4 (zKf ad), zJ (ad 2) 1, zJ (ad 3) 2, zJ (ad 4) 3, zJ (ad 5) 4, zL (ad 6) (ad 7) (ad 8) fln, zA (kk 0) (ad 7) 20 twn, zA (kk 0) (ad 8) 20 fxn, zL (ad 9) (ad 10) (ad 11) u.2.1, zA (kk 0) (ad 10) 20 u.2.2.1, zA (kk 0) (ad 11) 20 u.2.2.2])) (va_A [zO ad f g, zQ (kk 4) (ad 1) 4 (zKf ad), zJ (ad 2) 1, zJ (ad 3) 2, zJ (ad 4) 3, zJ (ad 5) 4, zL (ad 6) (ad 7) (ad 8) fln, zA (kk 0) (ad 7) 20 twn, zA (kk 0) (ad 8) 20 fxn, zL (ad 9) (ad 10) (ad 11) flt, zA (kk 0) (ad 10) 20 twt, zA (kk 0) (ad 11) 20 fxt] sz)) 0 0 (va_A [zO ad f g, zQ (kk 4) (ad 1) 4 (zKf ad), zJ (ad 2) 1, zJ (ad 3) 2, zJ (ad 4) 3, zJ (ad 5) 4, zL (ad 6) (ad 7) (ad 8) fln, zA (kk 0) (ad 7) 20 twn, zA (kk 0) (ad 8) 20 fxn, zL (ad 9) (ad 10) (ad 11) flt, zA (kk 0) (ad 10) 20 twt, zA (kk 0) (ad 11) 20 fxt] sz) := by
  refine zMet (Qc := fun A => va_Qi (fun (r : Int32) (u : (Nat → Int32) × (Nat → Int32) × (Nat → Int32) × (Nat → Int32)) => Q r u.1 u.2.1 u.2.2.1 u.2.2.2) (zB D A (fun u : (Nat → Int32) × (Nat → Int32) × (Nat → Int32) × (Nat → Int32) => [zO ad u.1 g, zQ (kk 4) (ad 1) 4 (zKf ad), zJ (ad 2) 1, zJ (ad 3) 2, zJ (ad 4) 3, zJ (ad 5) 4, zL (ad 6) (ad 7) (ad 8) fln, zA (kk 0) (ad 7) 20 twn, zA (kk 0) (ad 8) 20 fxn, zL (ad 9) (ad 10) (ad 11) u.2.1, zA (kk 0) (ad 10) 20 u.2.2.1, zA (kk 0) (ad 11) 20 u.2.2.2])) A) (by decide) (Nat.le_of_ble_eq_true rfl) ?_
  intro p e s m below meth c A X hP hD hS ls hl
  obtain ⟨hx, hb, hr, hml, hown, hts, hlk, hnm, hK, hN, hA⟩ := X
  have hown : s.vm.findClass "LoseLeague" = some m.cls := hown
  have hl : lv_has ls 2 [(0, .ref (ad 0)), (1, .int p1)] := hl
  unfold wpX0_loser at h
  refine lv_iload_n hx hb dX0_loser_0 rfl (lv_at hl 1 rfl) ?_
  refine zc_i (wc := []) (wr := [zO ad f g, zQ (kk 4) (ad 1) 4 (zKf ad), zJ (ad 2) 1, zJ (ad 3) 2, zJ (ad 4) 3, zJ (ad 5) 4, zL (ad 6) (ad 7) (ad 8) fln, zA (kk 0) (ad 7) 20 twn, zA (kk 0) (ad 8) 20 fxn, zL (ad 9) (ad 10) (ad 11) flt, zA (kk 0) (ad 10) 20 twt, zA (kk 0) (ad 11) 20 fxt]) (w1 := (fun u : Unit => [])) (rest := []) [] [0, 1, 2, 3, 4, 5, 6, 7, 8, 9, 10, 11] rfl rfl (by decide) (by decide) (by decide) hA hP hD hS (fun hP hD => va_runS (As := [.int p1]) (rest := []) ⟨hx, hb, hml, hown, hts⟩ (metX0_isFar l D kk _ p1 _ h) (va_cwS 1 hts (lw_S q656 q657 q64 q658) rfl rfl rfl pdX0_isFar.2 ⟨(Nat.le_of_ble_eq_true rfl), (Nat.le_of_ble_eq_true rfl)⟩) (zp_S hK hN hP hD) rfl rfl hl.1 rfl (lv_room (Nat.le_of_ble_eq_true rfl)) dX0_loser_1 ⟨(Nat.le_of_ble_eq_true rfl), (Nat.le_of_ble_eq_true rfl)⟩) (fun r_1 u H locs h hP hD hS => ?_)
  try dsimp only at h
  have hP : va_P D vwCl [zO ad f g, zQ (kk 4) (ad 1) 4 (zKf ad), zJ (ad 2) 1, zJ (ad 3) 2, zJ (ad 4) 3, zJ (ad 5) 4, zL (ad 6) (ad 7) (ad 8) fln, zA (kk 0) (ad 7) 20 twn, zA (kk 0) (ad 8) 20 fxn, zL (ad 9) (ad 10) (ad 11) flt, zA (kk 0) (ad 10) 20 twt, zA (kk 0) (ad 11) 20 fxt] H := hP
  have hD : va_D A [zO ad f g, zQ (kk 4) (ad 1) 4 (zKf ad), zJ (ad 2) 1, zJ (ad 3) 2, zJ (ad 4) 3, zJ (ad 5) 4, zL (ad 6) (ad 7) (ad 8) fln, zA (kk 0) (ad 7) 20 twn, zA (kk 0) (ad 8) 20 fxn, zL (ad 9) (ad 10) (ad 11) flt, zA (kk 0) (ad 10) 20 twt, zA (kk 0) (ad 11) 20 fxt] := hD
  refine lv_if_ne (tgt := 9) hx hb dX0_loser_4 (by decide) (fun c_2 => ?_) (fun c_2 => ?_)
  · have h := h.2 c_2
    refine lv_aload_n hx hb dX0_loser_9 rfl (lv_at hl 0 rfl) ?_
    refine va_get (D := D) (ci := 0) (v := .ref (ad 9)) (C := RX0) (T := TX0) (N := 25) hx hb hts in_X0 hown hK hP 0 rfl rfl 2 (Nat.le_of_ble_eq_true rfl) (hts _ q174) (fun _ h9 => h9) rfl dX0_loser_10 ?_
    refine lv_aload_n hx hb dX0_loser_13 rfl (lv_at hl 0 rfl) ?_
    refine va_get (D := D) (ci := 0) (v := .ref (ad 6)) (C := RX0) (T := TX0) (N := 25) hx hb hts in_X0 hown hK hP 0 rfl rfl 1 (Nat.le_of_ble_eq_true rfl) (hts _ q173) (fun _ h9 => h9) rfl dX0_loser_14 ?_
    have hrc := va_recv hK hP (ci := 5) (q0 := 9) rfl rfl
    refine zc_v (wc := [zL (ad 9) (ad 10) (ad 11) flt, zA (kk 0) (ad 10) 20 twt, zA (kk 0) (ad 11) 20 fxt, zL (ad 6) (ad 7) (ad 8) fln, zA (kk 0) (ad 7) 20 twn, zA (kk 0) (ad 8) 20 fxn]) (wr := [zO ad f g, zQ (kk 4) (ad 1) 4 (zKf ad), zJ (ad 2) 1, zJ (ad 3) 2, zJ (ad 4) 3, zJ (ad 5) 4]) (w1 := (fun u : (Nat → Int32) × (Nat → Int32) × (Nat → Int32) => [zL (ad 9) (ad 10) (ad 11) u.1, zA (kk 0) (ad 10) 20 u.2.1, zA (kk 0) (ad 11) 20 u.2.2, zL (ad 6) (ad 7) (ad 8) fln, zA (kk 0) (ad 7) 20 twn, zA (kk 0) (ad 8) 20 fxn])) (rest := []) [9, 10, 11, 6, 7, 8] [0, 1, 2, 3, 4, 5] rfl rfl (by decide) (by decide) (by decide) hA hP hD hS (fun hP hD => va_runV (As := [.ref (ad 6)]) (rest := []) ⟨hx, hb, hml, hown, hts⟩ (metX5_as l D kk (ad 9) (ad 10) (ad 11) (ad 6) (ad 7) (ad 8) _ flt twt fxt fln twn fxn _ h) (cwV 1 hts (lw_V q489 q490 q491 q69 q492) rfl rfl rfl pdX5_as ⟨(Nat.le_of_ble_eq_true rfl), (Nat.le_of_ble_eq_true rfl)⟩) (zp_V hK hN hrc hP hD) rfl rfl hl.1 rfl (lv_room (Nat.le_of_ble_eq_true rfl)) dX0_loser_17 ⟨(Nat.le_of_ble_eq_true rfl), (Nat.le_of_ble_eq_true rfl)⟩) (fun u H locs h hP hD hS => ?_)
    obtain ⟨flt_4, twt_5, fxt_6⟩ := u
    try dsimp only at h
    have hP : va_P D vwCl [zO ad f g, zQ (kk 4) (ad 1) 4 (zKf ad), zJ (ad 2) 1, zJ (ad 3) 2, zJ (ad 4) 3, zJ (ad 5) 4, zL (ad 9) (ad 10) (ad 11) flt_4, zA (kk 0) (ad 10) 20 twt_5, zA (kk 0) (ad 11) 20 fxt_6, zL (ad 6) (ad 7) (ad 8) fln, zA (kk 0) (ad 7) 20 twn, zA (kk 0) (ad 8) 20 fxn] H := hP
    have hD : va_D A [zO ad f g, zQ (kk 4) (ad 1) 4 (zKf ad), zJ (ad 2) 1, zJ (ad 3) 2, zJ (ad 4) 3, zJ (ad 5) 4, zL (ad 9) (ad 10) (ad 11) flt_4, zA (kk 0) (ad 10) 20 twt_5, zA (kk 0) (ad 11) 20 fxt_6, zL (ad 6) (ad 7) (ad 8) fln, zA (kk 0) (ad 7) 20 twn, zA (kk 0) (ad 8) 20 fxn] := hD
    refine lv_aload_n hx hb dX0_loser_20 rfl (lv_at hl 0 rfl) ?_
    refine lv_aload_n hx hb dX0_loser_21 rfl (lv_at hl 0 rfl) ?_
    refine va_get (D := D) (ci := 0) (v := .ref (ad 9)) (C := RX0) (T := TX0) (N := 25) hx hb hts in_X0 hown hK hP 0 rfl rfl 2 (Nat.le_of_ble_eq_true rfl) (hts _ q174) (fun _ h9 => h9) rfl dX0_loser_22 ?_
    refine lv_iload_n hx hb dX0_loser_25 rfl (lv_at hl 1 rfl) ?_
    refine lv_iconst (v := (1 : Int32)) hx hb dX0_loser_26 (by decide) ?_
    refine lv_iadd hx hb dX0_loser_27 ?_
    have hrc := va_recv hK hP (ci := 0) (q0 := 0) rfl rfl
    refine zc_v (wc := [zO ad f g, zQ (kk 4) (ad 1) 4 (zKf ad), zJ (ad 2) 1, zJ (ad 3) 2, zJ (ad 4) 3, zJ (ad 5) 4, zL (ad 9) (ad 10) (ad 11) flt_4, zA (kk 0) (ad 10) 20 twt_5, zA (kk 0) (ad 11) 20 fxt_6]) (wr := [zL (ad 6) (ad 7) (ad 8) fln, zA (kk 0) (ad 7) 20 twn, zA (kk 0) (ad 8) 20 fxn]) (w1 := (fun u : (Nat → Int32) × (Nat → Int32) × (Nat → Int32) => [zO ad u.1 g, zQ (kk 4) (ad 1) 4 (zKf ad), zJ (ad 2) 1, zJ (ad 3) 2, zJ (ad 4) 3, zJ (ad 5) 4, zL (ad 9) (ad 10) (ad 11) u.2.1, zA (kk 0) (ad 10) 20 u.2.2, zA (kk 0) (ad 11) 20 fxt_6])) (rest := []) [0, 1, 2, 3, 4, 5, 6, 7, 8] [9, 10, 11] rfl rfl (by decide) (by decide) (by decide) hA hP hD hS (fun hP hD => va_runV (As := [.ref (ad 9), .int (p1 + (1 : Int32))]) (rest := []) ⟨hx, hb, hml, hown, hts⟩ (metX0_weeksGo l D kk ad (ad 9) (ad 10) (ad 11) _ f g flt_4 twt_5 fxt_6 (p1 + (1 : Int32)) _ h) (cwV 2 hts (lw_V q603 q605 qs15 q64 q606) rfl rfl rfl pdX0_weeksGo ⟨(Nat.le_of_ble_eq_true rfl), (Nat.le_of_ble_eq_true rfl)⟩) (zp_V hK hN hrc hP hD) rfl rfl hl.1 rfl (lv_room (Nat.le_of_ble_eq_true rfl)) dX0_loser_28 ⟨(Nat.le_of_ble_eq_true rfl), (Nat.le_of_ble_eq_true rfl)⟩) (fun u H locs h hP hD hS => ?_)
    obtain ⟨f_8, flt_9, twt_10⟩ := u
    try dsimp only at h
    have hP : va_P D vwCl [zL (ad 6) (ad 7) (ad 8) fln, zA (kk 0) (ad 7) 20 twn, zA (kk 0) (ad 8) 20 fxn, zO ad f_8 g, zQ (kk 4) (ad 1) 4 (zKf ad), zJ (ad 2) 1, zJ (ad 3) 2, zJ (ad 4) 3, zJ (ad 5) 4, zL (ad 9) (ad 10) (ad 11) flt_9, zA (kk 0) (ad 10) 20 twt_10, zA (kk 0) (ad 11) 20 fxt_6] H := hP
    have hD : va_D A [zL (ad 6) (ad 7) (ad 8) fln, zA (kk 0) (ad 7) 20 twn, zA (kk 0) (ad 8) 20 fxn, zO ad f_8 g, zQ (kk 4) (ad 1) 4 (zKf ad), zJ (ad 2) 1, zJ (ad 3) 2, zJ (ad 4) 3, zJ (ad 5) 4, zL (ad 9) (ad 10) (ad 11) flt_9, zA (kk 0) (ad 10) 20 twt_10, zA (kk 0) (ad 11) 20 fxt_6] := hD
    refine lv_aload_n hx hb dX0_loser_31 rfl (lv_at hl 0 rfl) ?_
    refine va_get (D := D) (ci := 0) (v := .int (f_8 10)) (C := RX0) (T := TX0) (N := 25) hx hb hts in_X0 hown hK hP 3 rfl rfl 10 (Nat.le_of_ble_eq_true rfl) (hts _ q182) (fun _ h9 => h9) rfl dX0_loser_32 ?_
    exact zr_i hx hb hr hlk rfl hP hD hS (f_8, flt_9, twt_10, fxt_6) [3, 4, 5, 6, 7, 8, 0, 1, 2, 9, 10, 11] rfl (by decide) dX0_loser_35 h
  · have h := h.1 c_2
    refine lv_iconst (v := (-1 : Int32)) hx hb dX0_loser_7 (by decide) ?_
    exact zr_i hx hb hr hlk rfl hP hD hS (f, flt, twt, fxt) [0, 1, 2, 3, 4, 5, 6, 7, 8, 9, 10, 11] rfl (by decide) dX0_loser_8 h
def wbX0_loses_23 (fln : Nat → Int32) (twn : Nat → Int32) (fxn : Nat → Int32) (p1 : Int32) (Q : Int32 → (Nat → Int32) → (Nat → Int32) → (Nat → Int32) → (Nat → Int32) → Prop) (k23 : (Nat → Int32) → (Nat → Int32) → (Nat → Int32) → (Nat → Int32) → Int32 → Prop) (f : Nat → Int32) (flt : Nat → Int32) (twt : Nat → Int32) (fxt : Nat → Int32) (x2 : Int32) : Prop :=
  (((60 : Int32) < x2 → Q (-4 : Int32) f flt twt fxt) ∧ (¬ (60 : Int32) < x2 → (wpX0_weekGoes f flt twt fxt (0 : Int32) (fun f_9 flt_10 twt_11 => (((f_9 10) = p1 → Q x2 f_9 flt_10 twt_11 fxt) ∧ (¬ (f_9 10) = p1 → k23 f_9 flt_10 twt_11 fxt (x2 + 1)))))))
def wpX0_loses_23 (fln : Nat → Int32) (twn : Nat → Int32) (fxn : Nat → Int32) (p1 : Int32) (Q : Int32 → (Nat → Int32) → (Nat → Int32) → (Nat → Int32) → (Nat → Int32) → Prop) (n : Nat) : (Nat → Int32) → (Nat → Int32) → (Nat → Int32) → (Nat → Int32) → Int32 → Prop :=
  Nat.rec (motive := fun _ => (Nat → Int32) → (Nat → Int32) → (Nat → Int32) → (Nat → Int32) → Int32 → Prop) (fun _ _ _ _ _ => False) (fun _ k => wbX0_loses_23 fln twn fxn p1 Q  k) n
def wpX0_loses (f : Nat → Int32) (fln : Nat → Int32) (twn : Nat → Int32) (fxn : Nat → Int32) (flt : Nat → Int32) (twt : Nat → Int32) (fxt : Nat → Int32) (p1 : Int32) (Q : Int32 → (Nat → Int32) → (Nat → Int32) → (Nat → Int32) → (Nat → Int32) → Prop) : Prop :=
  (wpX0_isTown fln p1 (fun r_1 => ((r_1 = 0 → Q (-1 : Int32) f flt twt fxt) ∧ (¬ r_1 = 0 → (wpX5_as flt twt fxt fln twn fxn (fun flt_4 twt_5 fxt_6 => (∃ n : Nat, wpX0_loses_23 fln twn fxn p1 Q  n f flt_4 twt_5 fxt_6 (0 : Int32))))))))
set_option maxHeartbeats 4000000 in
theorem metX0_loses (l : Launch) (D : va_G) (kk : Nat → ClassId) (ad : Nat → Nat) (sz : Nat) (f : Nat → Int32) (g : Nat → Int64) (fln : Nat → Int32) (twn : Nat → Int32) (fxn : Nat → Int32) (flt : Nat → Int32) (twt : Nat → Int32) (fxt : Nat → Int32) (p1 : Int32) (Q : Int32 → (Nat → Int32) → (Nat → Int32) → (Nat → Int32) → (Nat → Int32) → Prop) (h : wpX0_loses f fln twn fxn flt twt fxt p1 Q) : Met l yX0_loses (ws_ yX0_loses cX0_loses 3 (some .int)) { frames := 7, cells := 0, slots := 0, locals := 160 } (va_Pc ([.ref (ad 0), .int p1] : List Value) (zPc D kk [zO ad f g, zQ (kk 4) (ad 1) 4 (zKf ad), zJ (ad 2) 1, zJ (ad 3) 2, zJ (ad 4) 3, zJ (ad 5) 4, zL (ad 6) (ad 7) (ad 8) fln, zA (kk 0) (ad 7) 20 twn, zA (kk 0) (ad 8) 20 fxn, zL (ad 9) (ad 10) (ad 11) flt, zA (kk 0) (ad 10) 20 twt, zA (kk 0) (ad 11) 20 fxt] sz)) (va_Qi (fun (r : Int32) (u : (Nat → Int32) × (Nat → Int32) × (Nat → Int32) × (Nat → Int32)) => Q r u.1 u.2.1 u.2.2.1 u.2.2.2) (zB D (va_A [zO ad f g, zQ (kk 4) (ad 1) 4 (zKf ad), zJ (ad 2) 1, zJ (ad 3) 2, zJ (ad 4) 3, zJ (ad 5) 4, zL (ad 6) (ad 7) (ad 8) fln, zA (kk 0) (ad 7) 20 twn, zA (kk 0) (ad 8) 20 fxn, zL (ad 9) (ad 10) (ad 11) flt, zA (kk 0) (ad 10) 20 twt, zA (kk 0) (ad 11) 20 fxt] sz) (fun u : (Nat → Int32) × (Nat → Int32) × (Nat → Int32) × (Nat → Int32) => [zO ad u.1 g, zQ (kk 4) (ad 1) 4 (zKf ad), zJ (ad 2) 1, zJ (ad 3) 2, zJ (ad 4) 3, zJ (ad 5) 4, zL (ad 6) (ad 7) (ad 8) fln, zA (kk 0) (ad 7) 20 twn, zA (kk 0) (ad 8) 20 fxn, zL (ad 9) (ad 10) (ad 11) u.2.1, zA (kk 0) (ad 10) 20 u.2.2.1, zA (kk 0) (ad 11) 20 u.2.2.2])) (va_A [zO ad f g, zQ (kk 4) (ad 1) 4 (zKf ad), zJ (ad 2) 1, zJ (ad 3) 2, zJ (ad 4) 3, zJ (ad 5) 4, zL (ad 6) (ad 7) (ad 8) fln, zA (kk 0) (ad 7) 20 twn, zA (kk 0) (ad 8) 20 fxn, zL (ad 9) (ad 10) (ad 11) flt, zA (kk 0) (ad 10) 20 twt, zA (kk 0) (ad 11) 20 fxt] sz)) 0 0 (va_A [zO ad f g, zQ (kk 4) (ad 1) 4 (zKf ad), zJ (ad 2) 1, zJ (ad 3) 2, zJ (ad 4) 3, zJ (ad 5) 4, zL (ad 6) (ad 7) (ad 8) fln, zA (kk 0) (ad 7) 20 twn, zA (kk 0) (ad 8) 20 fxn, zL (ad 9) (ad 10) (ad 11) flt, zA (kk 0) (ad 10) 20 twt, zA (kk 0) (ad 11) 20 fxt] sz) := by
  refine zMet (Qc := fun A => va_Qi (fun (r : Int32) (u : (Nat → Int32) × (Nat → Int32) × (Nat → Int32) × (Nat → Int32)) => Q r u.1 u.2.1 u.2.2.1 u.2.2.2) (zB D A (fun u : (Nat → Int32) × (Nat → Int32) × (Nat → Int32) × (Nat → Int32) => [zO ad u.1 g, zQ (kk 4) (ad 1) 4 (zKf ad), zJ (ad 2) 1, zJ (ad 3) 2, zJ (ad 4) 3, zJ (ad 5) 4, zL (ad 6) (ad 7) (ad 8) fln, zA (kk 0) (ad 7) 20 twn, zA (kk 0) (ad 8) 20 fxn, zL (ad 9) (ad 10) (ad 11) u.2.1, zA (kk 0) (ad 10) 20 u.2.2.1, zA (kk 0) (ad 11) 20 u.2.2.2])) A) (by decide) (Nat.le_of_ble_eq_true rfl) ?_
  intro p e s m below meth c A X hP hD hS ls hl
  obtain ⟨hx, hb, hr, hml, hown, hts, hlk, hnm, hK, hN, hA⟩ := X
  have hown : s.vm.findClass "LoseLeague" = some m.cls := hown
  have hl : lv_has ls 3 [(0, .ref (ad 0)), (1, .int p1)] := hl
  unfold wpX0_loses at h
  refine lv_aload_n hx hb dX0_loses_0 rfl (lv_at hl 0 rfl) ?_
  refine lv_iload_n hx hb dX0_loses_1 rfl (lv_at hl 1 rfl) ?_
  have hrc := va_recv hK hP (ci := 0) (q0 := 0) rfl rfl
  refine zc_i (wc := [zO ad f g, zL (ad 6) (ad 7) (ad 8) fln, zA (kk 0) (ad 7) 20 twn, zA (kk 0) (ad 8) 20 fxn]) (wr := [zQ (kk 4) (ad 1) 4 (zKf ad), zJ (ad 2) 1, zJ (ad 3) 2, zJ (ad 4) 3, zJ (ad 5) 4, zL (ad 9) (ad 10) (ad 11) flt, zA (kk 0) (ad 10) 20 twt, zA (kk 0) (ad 11) 20 fxt]) (w1 := (fun u : Unit => [zO ad f g, zL (ad 6) (ad 7) (ad 8) fln, zA (kk 0) (ad 7) 20 twn, zA (kk 0) (ad 8) 20 fxn])) (rest := []) [0, 6, 7, 8] [1, 2, 3, 4, 5, 9, 10, 11] rfl rfl (by decide) (by decide) (by decide) hA hP hD hS (fun hP hD => va_runV (As := [.int p1]) (rest := []) ⟨hx, hb, hml, hown, hts⟩ (metX0_isTown l D kk ad _ f g fln twn fxn p1 _ h) (cwV 1 hts (lw_V q524 q526 qs10 q64 q527) rfl rfl rfl pdX0_isTown ⟨(Nat.le_of_ble_eq_true rfl), (Nat.le_of_ble_eq_true rfl)⟩) (zp_V hK hN hrc hP hD) rfl rfl hl.1 rfl (lv_room (Nat.le_of_ble_eq_true rfl)) dX0_loses_2 ⟨(Nat.le_of_ble_eq_true rfl), (Nat.le_of_ble_eq_true rfl)⟩) (fun r_1 u H locs h hP hD hS => ?_)
  try dsimp only at h
  have hP : va_P D vwCl [zQ (kk 4) (ad 1) 4 (zKf ad), zJ (ad 2) 1, zJ (ad 3) 2, zJ (ad 4) 3, zJ (ad 5) 4, zL (ad 9) (ad 10) (ad 11) flt, zA (kk 0) (ad 10) 20 twt, zA (kk 0) (ad 11) 20 fxt, zO ad f g, zL (ad 6) (ad 7) (ad 8) fln, zA (kk 0) (ad 7) 20 twn, zA (kk 0) (ad 8) 20 fxn] H := hP
  have hD : va_D A [zQ (kk 4) (ad 1) 4 (zKf ad), zJ (ad 2) 1, zJ (ad 3) 2, zJ (ad 4) 3, zJ (ad 5) 4, zL (ad 9) (ad 10) (ad 11) flt, zA (kk 0) (ad 10) 20 twt, zA (kk 0) (ad 11) 20 fxt, zO ad f g, zL (ad 6) (ad 7) (ad 8) fln, zA (kk 0) (ad 7) 20 twn, zA (kk 0) (ad 8) 20 fxn] := hD
  refine lv_if_ne (tgt := 10) hx hb dX0_loses_5 (by decide) (fun c_2 => ?_) (fun c_2 => ?_)
  · have h := h.2 c_2
    refine lv_aload_n hx hb dX0_loses_10 rfl (lv_at hl 0 rfl) ?_
    refine va_get (D := D) (ci := 0) (v := .ref (ad 9)) (C := RX0) (T := TX0) (N := 25) hx hb hts in_X0 hown hK hP 8 rfl rfl 2 (Nat.le_of_ble_eq_true rfl) (hts _ q174) (fun _ h9 => h9) rfl dX0_loses_11 ?_
    refine lv_aload_n hx hb dX0_loses_14 rfl (lv_at hl 0 rfl) ?_
    refine va_get (D := D) (ci := 0) (v := .ref (ad 6)) (C := RX0) (T := TX0) (N := 25) hx hb hts in_X0 hown hK hP 8 rfl rfl 1 (Nat.le_of_ble_eq_true rfl) (hts _ q173) (fun _ h9 => h9) rfl dX0_loses_15 ?_
    have hrc := va_recv hK hP (ci := 5) (q0 := 5) rfl rfl
    refine zc_v (wc := [zL (ad 9) (ad 10) (ad 11) flt, zA (kk 0) (ad 10) 20 twt, zA (kk 0) (ad 11) 20 fxt, zL (ad 6) (ad 7) (ad 8) fln, zA (kk 0) (ad 7) 20 twn, zA (kk 0) (ad 8) 20 fxn]) (wr := [zQ (kk 4) (ad 1) 4 (zKf ad), zJ (ad 2) 1, zJ (ad 3) 2, zJ (ad 4) 3, zJ (ad 5) 4, zO ad f g]) (w1 := (fun u : (Nat → Int32) × (Nat → Int32) × (Nat → Int32) => [zL (ad 9) (ad 10) (ad 11) u.1, zA (kk 0) (ad 10) 20 u.2.1, zA (kk 0) (ad 11) 20 u.2.2, zL (ad 6) (ad 7) (ad 8) fln, zA (kk 0) (ad 7) 20 twn, zA (kk 0) (ad 8) 20 fxn])) (rest := []) [5, 6, 7, 9, 10, 11] [0, 1, 2, 3, 4, 8] rfl rfl (by decide) (by decide) (by decide) hA hP hD hS (fun hP hD => va_runV (As := [.ref (ad 6)]) (rest := []) ⟨hx, hb, hml, hown, hts⟩ (metX5_as l D kk (ad 9) (ad 10) (ad 11) (ad 6) (ad 7) (ad 8) _ flt twt fxt fln twn fxn _ h) (cwV 1 hts (lw_V q489 q490 q491 q69 q492) rfl rfl rfl pdX5_as ⟨(Nat.le_of_ble_eq_true rfl), (Nat.le_of_ble_eq_true rfl)⟩) (zp_V hK hN hrc hP hD) rfl rfl hl.1 rfl (lv_room (Nat.le_of_ble_eq_true rfl)) dX0_loses_18 ⟨(Nat.le_of_ble_eq_true rfl), (Nat.le_of_ble_eq_true rfl)⟩) (fun u H locs h hP hD hS => ?_)
    obtain ⟨flt_4, twt_5, fxt_6⟩ := u
    try dsimp only at h
    have hP : va_P D vwCl [zQ (kk 4) (ad 1) 4 (zKf ad), zJ (ad 2) 1, zJ (ad 3) 2, zJ (ad 4) 3, zJ (ad 5) 4, zO ad f g, zL (ad 9) (ad 10) (ad 11) flt_4, zA (kk 0) (ad 10) 20 twt_5, zA (kk 0) (ad 11) 20 fxt_6, zL (ad 6) (ad 7) (ad 8) fln, zA (kk 0) (ad 7) 20 twn, zA (kk 0) (ad 8) 20 fxn] H := hP
    have hD : va_D A [zQ (kk 4) (ad 1) 4 (zKf ad), zJ (ad 2) 1, zJ (ad 3) 2, zJ (ad 4) 3, zJ (ad 5) 4, zO ad f g, zL (ad 9) (ad 10) (ad 11) flt_4, zA (kk 0) (ad 10) 20 twt_5, zA (kk 0) (ad 11) 20 fxt_6, zL (ad 6) (ad 7) (ad 8) fln, zA (kk 0) (ad 7) 20 twn, zA (kk 0) (ad 8) 20 fxn] := hD
    refine lv_iconst (v := (0 : Int32)) hx hb dX0_loses_21 (by decide) ?_
    have cut_23 : ∀ (nl23 : Nat) (f : Nat → Int32) (flt : Nat → Int32) (twt : Nat → Int32) (fxt : Nat → Int32) (x2 : Int32), wpX0_loses_23 fln twn fxn p1 Q  nl23 f flt twt fxt x2 → ∀ (H : Heap) (locs : List Loc), va_P D vwCl [zO ad f g, zQ (kk 4) (ad 1) 4 (zKf ad), zJ (ad 2) 1, zJ (ad 3) 2, zJ (ad 4) 3, zJ (ad 5) 4, zL (ad 6) (ad 7) (ad 8) fln, zA (kk 0) (ad 7) 20 twn, zA (kk 0) (ad 8) 20 fxn, zL (ad 9) (ad 10) (ad 11) flt, zA (kk 0) (ad 10) 20 twt, zA (kk 0) (ad 11) 20 fxt] H → va_D A [zO ad f g, zQ (kk 4) (ad 1) 4 (zKf ad), zJ (ad 2) 1, zJ (ad 3) 2, zJ (ad 4) 3, zJ (ad 5) 4, zL (ad 6) (ad 7) (ad 8) fln, zA (kk 0) (ad 7) 20 twn, zA (kk 0) (ad 8) 20 fxn, zL (ad 9) (ad 10) (ad 11) flt, zA (kk 0) (ad 10) 20 twt, zA (kk 0) (ad 11) 20 fxt] → va_S A s.heap H locs → ∀ ls : Array Slot, lv_has ls 3 [(2, .int x2), (0, .ref (ad 0)), (1, .int p1)] → W p l e { frames := 7, cells := 0, slots := 0, locals := 160 } s m ([.ref (ad 0), .int p1] : List Value).toArray below meth c H locs 0 0 (MQ below (va_Qi (fun (r : Int32) (u : (Nat → Int32) × (Nat → Int32) × (Nat → Int32) × (Nat → Int32)) => Q r u.1 u.2.1 u.2.2.1 u.2.2.2) (zB D A (fun u : (Nat → Int32) × (Nat → Int32) × (Nat → Int32) × (Nat → Int32) => [zO ad u.1 g, zQ (kk 4) (ad 1) 4 (zKf ad), zJ (ad 2) 1, zJ (ad 3) 2, zJ (ad 4) 3, zJ (ad 5) 4, zL (ad 6) (ad 7) (ad 8) fln, zA (kk 0) (ad 7) 20 twn, zA (kk 0) (ad 8) 20 fxn, zL (ad 9) (ad 10) (ad 11) u.2.1, zA (kk 0) (ad 10) 20 u.2.2.1, zA (kk 0) (ad 11) 20 u.2.2.2])) A) ([.ref (ad 0), .int p1] : List Value).toArray s 0 0 A) (F0 m 23 ls []) := by
      intro nl23
      induction nl23 with
      | zero => intro f flt twt fxt x2 h; exact absurd h id
      | succ nl23 ih_23 =>
        intro f flt twt fxt x2 h H locs hP hD hS ls hl
        have h : wbX0_loses_23 fln twn fxn p1 Q  (wpX0_loses_23 fln twn fxn p1 Q  nl23) f flt twt fxt x2 := h
        unfold wbX0_loses_23 at h
        refine lv_iload_n hx hb dX0_loses_23 rfl (lv_at hl 0 rfl) ?_
        refine lv_bipush (v := (60 : Int32)) hx hb dX0_loses_24 (by decide) ?_
        refine lv_icmp_gt (tgt := 54) hx hb dX0_loses_26 (by decide) (fun c_7 => ?_) (fun c_7 => ?_)
        · have h := h.1 c_7
          refine lv_bipush (v := (-4 : Int32)) hx hb dX0_loses_54 (by decide) ?_
          exact zr_i hx hb hr hlk rfl hP hD hS (f, flt, twt, fxt) [0, 1, 2, 3, 4, 5, 6, 7, 8, 9, 10, 11] rfl (by decide) dX0_loses_56 h
        · have h := h.2 c_7
          refine lv_aload_n hx hb dX0_loses_29 rfl (lv_at hl 1 rfl) ?_
          refine lv_aload_n hx hb dX0_loses_30 rfl (lv_at hl 1 rfl) ?_
          refine va_get (D := D) (ci := 0) (v := .ref (ad 9)) (C := RX0) (T := TX0) (N := 25) hx hb hts in_X0 hown hK hP 0 rfl rfl 2 (Nat.le_of_ble_eq_true rfl) (hts _ q174) (fun _ h9 => h9) rfl dX0_loses_31 ?_
          refine lv_iconst (v := (0 : Int32)) hx hb dX0_loses_34 (by decide) ?_
          have hrc := va_recv hK hP (ci := 0) (q0 := 0) rfl rfl
          refine zc_v (wc := [zO ad f g, zQ (kk 4) (ad 1) 4 (zKf ad), zJ (ad 2) 1, zJ (ad 3) 2, zJ (ad 4) 3, zJ (ad 5) 4, zL (ad 9) (ad 10) (ad 11) flt, zA (kk 0) (ad 10) 20 twt, zA (kk 0) (ad 11) 20 fxt]) (wr := [zL (ad 6) (ad 7) (ad 8) fln, zA (kk 0) (ad 7) 20 twn, zA (kk 0) (ad 8) 20 fxn]) (w1 := (fun u : (Nat → Int32) × (Nat → Int32) × (Nat → Int32) => [zO ad u.1 g, zQ (kk 4) (ad 1) 4 (zKf ad), zJ (ad 2) 1, zJ (ad 3) 2, zJ (ad 4) 3, zJ (ad 5) 4, zL (ad 9) (ad 10) (ad 11) u.2.1, zA (kk 0) (ad 10) 20 u.2.2, zA (kk 0) (ad 11) 20 fxt])) (rest := []) [0, 1, 2, 3, 4, 5, 9, 10, 11] [6, 7, 8] rfl rfl (by decide) (by decide) (by decide) hA hP hD hS (fun hP hD => va_runV (As := [.ref (ad 9), .int (0 : Int32)]) (rest := []) ⟨hx, hb, hml, hown, hts⟩ (metX0_weekGoes l D kk ad (ad 9) (ad 10) (ad 11) _ f g flt twt fxt (0 : Int32) _ h) (cwV 2 hts (lw_V q611 q613 qs17 q64 q614) rfl rfl rfl pdX0_weekGoes ⟨(Nat.le_of_ble_eq_true rfl), (Nat.le_of_ble_eq_true rfl)⟩) (zp_V hK hN hrc hP hD) rfl rfl hl.1 rfl (lv_room (Nat.le_of_ble_eq_true rfl)) dX0_loses_35 ⟨(Nat.le_of_ble_eq_true rfl), (Nat.le_of_ble_eq_true rfl)⟩) (fun u H locs h hP hD hS => ?_)
          obtain ⟨f_9, flt_10, twt_11⟩ := u
          try dsimp only at h
          have hP : va_P D vwCl [zL (ad 6) (ad 7) (ad 8) fln, zA (kk 0) (ad 7) 20 twn, zA (kk 0) (ad 8) 20 fxn, zO ad f_9 g, zQ (kk 4) (ad 1) 4 (zKf ad), zJ (ad 2) 1, zJ (ad 3) 2, zJ (ad 4) 3, zJ (ad 5) 4, zL (ad 9) (ad 10) (ad 11) flt_10, zA (kk 0) (ad 10) 20 twt_11, zA (kk 0) (ad 11) 20 fxt] H := hP
          have hD : va_D A [zL (ad 6) (ad 7) (ad 8) fln, zA (kk 0) (ad 7) 20 twn, zA (kk 0) (ad 8) 20 fxn, zO ad f_9 g, zQ (kk 4) (ad 1) 4 (zKf ad), zJ (ad 2) 1, zJ (ad 3) 2, zJ (ad 4) 3, zJ (ad 5) 4, zL (ad 9) (ad 10) (ad 11) flt_10, zA (kk 0) (ad 10) 20 twt_11, zA (kk 0) (ad 11) 20 fxt] := hD
          refine lv_aload_n hx hb dX0_loses_38 rfl (lv_at hl 1 rfl) ?_
          refine va_get (D := D) (ci := 0) (v := .int (f_9 10)) (C := RX0) (T := TX0) (N := 25) hx hb hts in_X0 hown hK hP 3 rfl rfl 10 (Nat.le_of_ble_eq_true rfl) (hts _ q182) (fun _ h9 => h9) rfl dX0_loses_39 ?_
          refine lv_iload_n hx hb dX0_loses_42 rfl (lv_at hl 2 rfl) ?_
          refine lv_icmp_ne (tgt := 48) hx hb dX0_loses_43 (by decide) (fun c_12 => ?_) (fun c_12 => ?_)
          · have h := h.2 c_12
            refine lv_iinc (v := (x2 + 1)) (lv' := [(2, .int (x2 + 1)), (0, .ref (ad 0)), (1, .int p1)]) hx hb dX0_loses_48 hl (k := 0) rfl rfl (by decide) rfl (fun ls hl => ?_)
            refine lv_goto (tgt := 23) hx hb dX0_loses_51 (by decide) ?_
            exact ih_23 f_9 flt_10 twt_11 fxt (x2 + 1) h _ _ (hP.sub [3, 4, 5, 6, 7, 8, 0, 1, 2, 9, 10, 11] rfl) (hD.sub [3, 4, 5, 6, 7, 8, 0, 1, 2, 9, 10, 11] (by decide) rfl) hS _ (lv_sub hl [0, 1, 2] rfl)
          · have h := h.1 c_12
            refine lv_iload_n hx hb dX0_loses_46 rfl (lv_at hl 0 rfl) ?_
            exact zr_i hx hb hr hlk rfl hP hD hS (f_9, flt_10, twt_11, fxt) [3, 4, 5, 6, 7, 8, 0, 1, 2, 9, 10, 11] rfl (by decide) dX0_loses_47 h
    refine lv_istore_n (lv' := [(2, .int (0 : Int32)), (0, .ref (ad 0)), (1, .int p1)]) hx hb dX0_loses_22 rfl hl (by decide) rfl (fun ls hl => ?_)
    obtain ⟨n_23, h⟩ := h
    exact cut_23 n_23 f flt_4 twt_5 fxt_6 (0 : Int32) h _ _ (hP.sub [5, 0, 1, 2, 3, 4, 9, 10, 11, 6, 7, 8] rfl) (hD.sub [5, 0, 1, 2, 3, 4, 9, 10, 11, 6, 7, 8] (by decide) rfl) hS _ (lv_sub hl [0, 1, 2] rfl)
  · have h := h.1 c_2
    refine lv_iconst (v := (-1 : Int32)) hx hb dX0_loses_8 (by decide) ?_
    exact zr_i hx hb hr hlk rfl hP hD hS (f, flt, twt, fxt) [8, 0, 1, 2, 3, 4, 9, 10, 11, 5, 6, 7] rfl (by decide) dX0_loses_9 h
