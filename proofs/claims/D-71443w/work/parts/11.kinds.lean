set_option maxRecDepth 100000
theorem pdX1_plays : yX1_plays.cls = "LoseLeague$Plain" ∧ yX1_plays.cls ≠ "java/lang/invoke/MethodHandle" ∧ yX1_plays.cls ≠ "java/lang/invoke/VarHandle" ∧ (parseMethodDescriptor yX1_plays.desc).map (fun d => d.parameters.length) = some 2 := by decide +kernel
theorem peX1_plays : yX1_plays.name ≠ "<init>" ∧ (parseMethodDescriptor yX1_plays.desc).map (fun d => d.parameters.length) = some 2 := by decide +kernel
theorem pdX1_trains : yX1_trains.cls = "LoseLeague$Plain" ∧ yX1_trains.cls ≠ "java/lang/invoke/MethodHandle" ∧ yX1_trains.cls ≠ "java/lang/invoke/VarHandle" ∧ (parseMethodDescriptor yX1_trains.desc).map (fun d => d.parameters.length) = some 0 := by decide +kernel
theorem peX1_trains : yX1_trains.name ≠ "<init>" ∧ (parseMethodDescriptor yX1_trains.desc).map (fun d => d.parameters.length) = some 0 := by decide +kernel
theorem pdX2_plays : yX2_plays.cls = "LoseLeague$Proud" ∧ yX2_plays.cls ≠ "java/lang/invoke/MethodHandle" ∧ yX2_plays.cls ≠ "java/lang/invoke/VarHandle" ∧ (parseMethodDescriptor yX2_plays.desc).map (fun d => d.parameters.length) = some 2 := by decide +kernel
theorem peX2_plays : yX2_plays.name ≠ "<init>" ∧ (parseMethodDescriptor yX2_plays.desc).map (fun d => d.parameters.length) = some 2 := by decide +kernel
theorem pdX2_trains : yX2_trains.cls = "LoseLeague$Proud" ∧ yX2_trains.cls ≠ "java/lang/invoke/MethodHandle" ∧ yX2_trains.cls ≠ "java/lang/invoke/VarHandle" ∧ (parseMethodDescriptor yX2_trains.desc).map (fun d => d.parameters.length) = some 0 := by decide +kernel
theorem peX2_trains : yX2_trains.name ≠ "<init>" ∧ (parseMethodDescriptor yX2_trains.desc).map (fun d => d.parameters.length) = some 0 := by decide +kernel
theorem pdX3_plays : yX3_plays.cls = "LoseLeague$Wise" ∧ yX3_plays.cls ≠ "java/lang/invoke/MethodHandle" ∧ yX3_plays.cls ≠ "java/lang/invoke/VarHandle" ∧ (parseMethodDescriptor yX3_plays.desc).map (fun d => d.parameters.length) = some 2 := by decide +kernel
theorem peX3_plays : yX3_plays.name ≠ "<init>" ∧ (parseMethodDescriptor yX3_plays.desc).map (fun d => d.parameters.length) = some 2 := by decide +kernel
theorem pdX4_plays : yX4_plays.cls = "LoseLeague$Careless" ∧ yX4_plays.cls ≠ "java/lang/invoke/MethodHandle" ∧ yX4_plays.cls ≠ "java/lang/invoke/VarHandle" ∧ (parseMethodDescriptor yX4_plays.desc).map (fun d => d.parameters.length) = some 2 := by decide +kernel
theorem peX4_plays : yX4_plays.name ≠ "<init>" ∧ (parseMethodDescriptor yX4_plays.desc).map (fun d => d.parameters.length) = some 2 := by decide +kernel
theorem pdX4_trains : yX4_trains.cls = "LoseLeague$Careless" ∧ yX4_trains.cls ≠ "java/lang/invoke/MethodHandle" ∧ yX4_trains.cls ≠ "java/lang/invoke/VarHandle" ∧ (parseMethodDescriptor yX4_trains.desc).map (fun d => d.parameters.length) = some 0 := by decide +kernel
theorem peX4_trains : yX4_trains.name ≠ "<init>" ∧ (parseMethodDescriptor yX4_trains.desc).map (fun d => d.parameters.length) = some 0 := by decide +kernel
def wpX1_plays (p1 : Int32) (Q : Int32 → Prop) : Prop :=
  Q p1
set_option maxHeartbeats 4000000 in
theorem metX1_plays (l : Launch) (D : va_G) (kk : Nat → ClassId) (la : Nat) (sz : Nat) (p1 : Int32) (p2 : Int32) (Q : Int32 → Prop) (h : wpX1_plays p1 Q) : Met l yX1_plays (ws_ yX1_plays cX1_plays 3 (some .int)) { frames := 0, cells := 0, slots := 0, locals := 0 } (va_Pc ([.ref la, .int p1, .int p2] : List Value) (zPc D kk [] sz)) (va_Qi (fun (r : Int32) (u : Unit) => Q r ) (zB D (va_A [] sz) (fun u : Unit => [])) (va_A [] sz)) 0 0 (va_A [] sz) := by
  refine zMet (Qc := fun A => va_Qi (fun (r : Int32) (u : Unit) => Q r ) (zB D A (fun u : Unit => [])) A) (by decide) (Nat.le_of_ble_eq_true rfl) ?_
  intro p e s m below meth c A X hP hD hS ls hl
  obtain ⟨hx, hb, hr, hml, hown, hts, hlk, hnm, hK, hN, hA⟩ := X
  have hown : s.vm.findClass "LoseLeague$Plain" = some m.cls := hown
  have hl : lv_has ls 3 [(0, .ref la), (1, .int p1), (2, .int p2)] := hl
  unfold wpX1_plays at h
  refine lv_iload_n hx hb dX1_plays_0 rfl (lv_at hl 1 rfl) ?_
  exact zr_i hx hb hr hlk rfl hP hD hS () [] rfl (by decide) dX1_plays_1 h
def wpX1_trains (Q : Int32 → Prop) : Prop :=
  Q (1 : Int32)
set_option maxHeartbeats 4000000 in
theorem metX1_trains (l : Launch) (D : va_G) (kk : Nat → ClassId) (la : Nat) (sz : Nat) (Q : Int32 → Prop) (h : wpX1_trains  Q) : Met l yX1_trains (ws_ yX1_trains cX1_trains 1 (some .int)) { frames := 0, cells := 0, slots := 0, locals := 0 } (va_Pc ([.ref la] : List Value) (zPc D kk [] sz)) (va_Qi (fun (r : Int32) (u : Unit) => Q r ) (zB D (va_A [] sz) (fun u : Unit => [])) (va_A [] sz)) 0 0 (va_A [] sz) := by
  refine zMet (Qc := fun A => va_Qi (fun (r : Int32) (u : Unit) => Q r ) (zB D A (fun u : Unit => [])) A) (by decide) (Nat.le_of_ble_eq_true rfl) ?_
  intro p e s m below meth c A X hP hD hS ls hl
  obtain ⟨hx, hb, hr, hml, hown, hts, hlk, hnm, hK, hN, hA⟩ := X
  have hown : s.vm.findClass "LoseLeague$Plain" = some m.cls := hown
  have hl : lv_has ls 1 [(0, .ref la)] := hl
  unfold wpX1_trains at h
  refine lv_iconst (v := (1 : Int32)) hx hb dX1_trains_0 (by decide) ?_
  exact zr_i hx hb hr hlk rfl hP hD hS () [] rfl (by decide) dX1_trains_1 h
def wpX2_plays (p1 : Int32) (Q : Int32 → Prop) : Prop :=
  (wpX1_plays p1 (fun r_1 => Q (r_1 + (3 : Int32))))
set_option maxHeartbeats 4000000 in
theorem metX2_plays (l : Launch) (D : va_G) (kk : Nat → ClassId) (la : Nat) (sz : Nat) (p1 : Int32) (p2 : Int32) (Q : Int32 → Prop) (h : wpX2_plays p1 Q) : Met l yX2_plays (ws_ yX2_plays cX2_plays 3 (some .int)) { frames := 1, cells := 0, slots := 0, locals := 22 } (va_Pc ([.ref la, .int p1, .int p2] : List Value) (zPc D kk [zJ la 2] sz)) (va_Qi (fun (r : Int32) (u : Unit) => Q r ) (zB D (va_A [zJ la 2] sz) (fun u : Unit => [zJ la 2])) (va_A [zJ la 2] sz)) 0 0 (va_A [zJ la 2] sz) := by
  refine zMet (Qc := fun A => va_Qi (fun (r : Int32) (u : Unit) => Q r ) (zB D A (fun u : Unit => [zJ la 2])) A) (by decide) (Nat.le_of_ble_eq_true rfl) ?_
  intro p e s m below meth c A X hP hD hS ls hl
  obtain ⟨hx, hb, hr, hml, hown, hts, hlk, hnm, hK, hN, hA⟩ := X
  have hown : s.vm.findClass "LoseLeague$Proud" = some m.cls := hown
  have hl : lv_has ls 3 [(0, .ref la), (1, .int p1), (2, .int p2)] := hl
  unfold wpX2_plays at h
  refine lv_aload_n hx hb dX2_plays_0 rfl (lv_at hl 0 rfl) ?_
  refine lv_iload_n hx hb dX2_plays_1 rfl (lv_at hl 1 rfl) ?_
  refine lv_iload_n hx hb dX2_plays_2 rfl (lv_at hl 2 rfl) ?_
  have hrc := va_recv hK hP (ci := 2) (q0 := 0) rfl rfl
  refine zc_i (wc := []) (wr := [zJ la 2]) (w1 := (fun u : Unit => [])) (rest := []) [] [0] rfl rfl (by decide) (by decide) (by decide) hA hP hD hS (fun hP hD => va_runSU (As := [.int p1, .int p2]) (rest := []) (hK.1 2 _ rfl).2 ⟨hx, hb, hml, hown, hts⟩ (metX1_plays l D kk la _ p1 p2 _ h) (va_cwSU 2 hts (lw_SU q549 q537 q111 q535 q65 q551) rfl rfl rfl peX1_plays ⟨(Nat.le_of_ble_eq_true rfl), (Nat.le_of_ble_eq_true rfl)⟩) (zp_V hK hN hrc hP hD) rfl rfl hl.1 rfl (lv_room (Nat.le_of_ble_eq_true rfl)) dX2_plays_3 ⟨(Nat.le_of_ble_eq_true rfl), (Nat.le_of_ble_eq_true rfl)⟩) (fun r_1 u H locs h hP hD hS => ?_)
  try dsimp only at h
  have hP : va_P D vwCl [zJ la 2] H := hP
  have hD : va_D A [zJ la 2] := hD
  refine lv_iconst (v := (3 : Int32)) hx hb dX2_plays_6 (by decide) ?_
  refine lv_iadd hx hb dX2_plays_7 ?_
  exact zr_i hx hb hr hlk rfl hP hD hS () [0] rfl (by decide) dX2_plays_8 h
def wpX2_trains (Q : Int32 → Prop) : Prop :=
  (wpX1_trains  (fun r_1 => Q (r_1 + (1 : Int32))))
set_option maxHeartbeats 4000000 in
theorem metX2_trains (l : Launch) (D : va_G) (kk : Nat → ClassId) (la : Nat) (sz : Nat) (Q : Int32 → Prop) (h : wpX2_trains  Q) : Met l yX2_trains (ws_ yX2_trains cX2_trains 1 (some .int)) { frames := 1, cells := 0, slots := 0, locals := 20 } (va_Pc ([.ref la] : List Value) (zPc D kk [zJ la 2] sz)) (va_Qi (fun (r : Int32) (u : Unit) => Q r ) (zB D (va_A [zJ la 2] sz) (fun u : Unit => [zJ la 2])) (va_A [zJ la 2] sz)) 0 0 (va_A [zJ la 2] sz) := by
  refine zMet (Qc := fun A => va_Qi (fun (r : Int32) (u : Unit) => Q r ) (zB D A (fun u : Unit => [zJ la 2])) A) (by decide) (Nat.le_of_ble_eq_true rfl) ?_
  intro p e s m below meth c A X hP hD hS ls hl
  obtain ⟨hx, hb, hr, hml, hown, hts, hlk, hnm, hK, hN, hA⟩ := X
  have hown : s.vm.findClass "LoseLeague$Proud" = some m.cls := hown
  have hl : lv_has ls 1 [(0, .ref la)] := hl
  unfold wpX2_trains at h
  refine lv_aload_n hx hb dX2_trains_0 rfl (lv_at hl 0 rfl) ?_
  have hrc := va_recv hK hP (ci := 2) (q0 := 0) rfl rfl
  refine zc_i (wc := []) (wr := [zJ la 2]) (w1 := (fun u : Unit => [])) (rest := []) [] [0] rfl rfl (by decide) (by decide) (by decide) hA hP hD hS (fun hP hD => va_runSU (As := []) (rest := []) (hK.1 2 _ rfl).2 ⟨hx, hb, hml, hown, hts⟩ (metX1_trains l D kk la _ _ h) (va_cwSU 0 hts (lw_SU q640 q630 q111 q628 q65 q642) rfl rfl rfl peX1_trains ⟨(Nat.le_of_ble_eq_true rfl), (Nat.le_of_ble_eq_true rfl)⟩) (zp_V hK hN hrc hP hD) rfl rfl hl.1 rfl (lv_room (Nat.le_of_ble_eq_true rfl)) dX2_trains_1 ⟨(Nat.le_of_ble_eq_true rfl), (Nat.le_of_ble_eq_true rfl)⟩) (fun r_1 u H locs h hP hD hS => ?_)
  try dsimp only at h
  have hP : va_P D vwCl [zJ la 2] H := hP
  have hD : va_D A [zJ la 2] := hD
  refine lv_iconst (v := (1 : Int32)) hx hb dX2_trains_4 (by decide) ?_
  refine lv_iadd hx hb dX2_trains_5 ?_
  exact zr_i hx hb hr hlk rfl hP hD hS () [0] rfl (by decide) dX2_trains_6 h
def wpX3_plays_3 (p1 : Int32) (p2 : Int32) (Q : Int32 → Prop) : Prop :=
  (wpX1_plays p1 (fun r_1 => ((p2 = 0 → Q (r_1 / (2 : Int32))) ∧ (¬ p2 = 0 → Q r_1))))
set_option maxHeartbeats 4000000 in
theorem metX3_plays_3 (l : Launch) (D : va_G) (kk : Nat → ClassId) (la : Nat) (sz : Nat) (p1 : Int32) (p2 : Int32) (Q : Int32 → Prop) (h : wpX3_plays_3 p1 p2 Q) : Met l yX3_plays (ws_ yX3_plays cX3_plays 4 (some .int)) { frames := 1, cells := 0, slots := 0, locals := 22 } (va_Pc ([.ref la, .int p1, .int p2] : List Value) (zPc D kk [zJ la 3] sz)) (va_Qi (fun (r : Int32) (u : Unit) => Q r ) (zB D (va_A [zJ la 3] sz) (fun u : Unit => [zJ la 3])) (va_A [zJ la 3] sz)) 0 0 (va_A [zJ la 3] sz) := by
  refine zMet (Qc := fun A => va_Qi (fun (r : Int32) (u : Unit) => Q r ) (zB D A (fun u : Unit => [zJ la 3])) A) (by decide) (Nat.le_of_ble_eq_true rfl) ?_
  intro p e s m below meth c A X hP hD hS ls hl
  obtain ⟨hx, hb, hr, hml, hown, hts, hlk, hnm, hK, hN, hA⟩ := X
  have hown : s.vm.findClass "LoseLeague$Wise" = some m.cls := hown
  have hl : lv_has ls 4 [(0, .ref la), (1, .int p1), (2, .int p2)] := hl
  unfold wpX3_plays_3 at h
  refine lv_aload_n hx hb dX3_plays_0 rfl (lv_at hl 0 rfl) ?_
  refine lv_iload_n hx hb dX3_plays_1 rfl (lv_at hl 1 rfl) ?_
  refine lv_iload_n hx hb dX3_plays_2 rfl (lv_at hl 2 rfl) ?_
  have hrc := va_recv hK hP (ci := 3) (q0 := 0) rfl rfl
  refine zc_i (wc := []) (wr := [zJ la 3]) (w1 := (fun u : Unit => [])) (rest := []) [] [0] rfl rfl (by decide) (by decide) (by decide) hA hP hD hS (fun hP hD => va_runSU (As := [.int p1, .int p2]) (rest := []) (hK.1 3 _ rfl).2 ⟨hx, hb, hml, hown, hts⟩ (metX1_plays l D kk la _ p1 p2 _ h) (va_cwSU 2 hts (lw_SU q544 q537 q118 q535 q65 q551) rfl rfl rfl peX1_plays ⟨(Nat.le_of_ble_eq_true rfl), (Nat.le_of_ble_eq_true rfl)⟩) (zp_V hK hN hrc hP hD) rfl rfl hl.1 rfl (lv_room (Nat.le_of_ble_eq_true rfl)) dX3_plays_3 ⟨(Nat.le_of_ble_eq_true rfl), (Nat.le_of_ble_eq_true rfl)⟩) (fun r_1 u H locs h hP hD hS => ?_)
  try dsimp only at h
  have hP : va_P D vwCl [zJ la 3] H := hP
  have hD : va_D A [zJ la 3] := hD
  refine lv_istore_n (lv' := [(3, .int r_1), (0, .ref la), (1, .int p1), (2, .int p2)]) hx hb dX3_plays_6 rfl hl (by decide) rfl (fun ls hl => ?_)
  refine lv_iload_n hx hb dX3_plays_7 rfl (lv_at hl 3 rfl) ?_
  refine lv_if_ne (tgt := 17) hx hb dX3_plays_8 (by decide) (fun c_2 => ?_) (fun c_2 => ?_)
  · have h := h.2 c_2
    refine lv_iload_n hx hb dX3_plays_17 rfl (lv_at hl 0 rfl) ?_
    exact zr_i hx hb hr hlk rfl hP hD hS () [0] rfl (by decide) dX3_plays_18 h
  · have h := h.1 c_2
    refine lv_iload_n hx hb dX3_plays_11 rfl (lv_at hl 0 rfl) ?_
    refine lv_iconst (v := (2 : Int32)) hx hb dX3_plays_12 (by decide) ?_
    refine lv_idiv hx hb dX3_plays_13 (by decide) ?_
    refine lv_goto (tgt := 18) hx hb dX3_plays_14 (by decide) ?_
    exact zr_i hx hb hr hlk rfl hP hD hS () [0] rfl (by decide) dX3_plays_18 h
def wpX3_plays_4 (p1 : Int32) (p2 : Int32) (Q : Int32 → Prop) : Prop :=
  (wpX1_plays p1 (fun r_1 => ((p2 = 0 → Q (r_1 / (2 : Int32))) ∧ (¬ p2 = 0 → Q r_1))))
set_option maxHeartbeats 4000000 in
theorem metX3_plays_4 (l : Launch) (D : va_G) (kk : Nat → ClassId) (la : Nat) (sz : Nat) (p1 : Int32) (p2 : Int32) (Q : Int32 → Prop) (h : wpX3_plays_4 p1 p2 Q) : Met l yX3_plays (ws_ yX3_plays cX3_plays 4 (some .int)) { frames := 1, cells := 0, slots := 0, locals := 22 } (va_Pc ([.ref la, .int p1, .int p2] : List Value) (zPc D kk [zJ la 4] sz)) (va_Qi (fun (r : Int32) (u : Unit) => Q r ) (zB D (va_A [zJ la 4] sz) (fun u : Unit => [zJ la 4])) (va_A [zJ la 4] sz)) 0 0 (va_A [zJ la 4] sz) := by
  refine zMet (Qc := fun A => va_Qi (fun (r : Int32) (u : Unit) => Q r ) (zB D A (fun u : Unit => [zJ la 4])) A) (by decide) (Nat.le_of_ble_eq_true rfl) ?_
  intro p e s m below meth c A X hP hD hS ls hl
  obtain ⟨hx, hb, hr, hml, hown, hts, hlk, hnm, hK, hN, hA⟩ := X
  have hown : s.vm.findClass "LoseLeague$Wise" = some m.cls := hown
  have hl : lv_has ls 4 [(0, .ref la), (1, .int p1), (2, .int p2)] := hl
  unfold wpX3_plays_4 at h
  refine lv_aload_n hx hb dX3_plays_0 rfl (lv_at hl 0 rfl) ?_
  refine lv_iload_n hx hb dX3_plays_1 rfl (lv_at hl 1 rfl) ?_
  refine lv_iload_n hx hb dX3_plays_2 rfl (lv_at hl 2 rfl) ?_
  have hrc := va_recv hK hP (ci := 4) (q0 := 0) rfl rfl
  refine zc_i (wc := []) (wr := [zJ la 4]) (w1 := (fun u : Unit => [])) (rest := []) [] [0] rfl rfl (by decide) (by decide) (by decide) hA hP hD hS (fun hP hD => va_runSU (As := [.int p1, .int p2]) (rest := []) (hK.1 4 _ rfl).2 ⟨hx, hb, hml, hown, hts⟩ (metX1_plays l D kk la _ p1 p2 _ h) (va_cwSU 2 hts (lw_SU q544 q537 q118 q535 q65 q551) rfl rfl rfl peX1_plays ⟨(Nat.le_of_ble_eq_true rfl), (Nat.le_of_ble_eq_true rfl)⟩) (zp_V hK hN hrc hP hD) rfl rfl hl.1 rfl (lv_room (Nat.le_of_ble_eq_true rfl)) dX3_plays_3 ⟨(Nat.le_of_ble_eq_true rfl), (Nat.le_of_ble_eq_true rfl)⟩) (fun r_1 u H locs h hP hD hS => ?_)
  try dsimp only at h
  have hP : va_P D vwCl [zJ la 4] H := hP
  have hD : va_D A [zJ la 4] := hD
  refine lv_istore_n (lv' := [(3, .int r_1), (0, .ref la), (1, .int p1), (2, .int p2)]) hx hb dX3_plays_6 rfl hl (by decide) rfl (fun ls hl => ?_)
  refine lv_iload_n hx hb dX3_plays_7 rfl (lv_at hl 3 rfl) ?_
  refine lv_if_ne (tgt := 17) hx hb dX3_plays_8 (by decide) (fun c_2 => ?_) (fun c_2 => ?_)
  · have h := h.2 c_2
    refine lv_iload_n hx hb dX3_plays_17 rfl (lv_at hl 0 rfl) ?_
    exact zr_i hx hb hr hlk rfl hP hD hS () [0] rfl (by decide) dX3_plays_18 h
  · have h := h.1 c_2
    refine lv_iload_n hx hb dX3_plays_11 rfl (lv_at hl 0 rfl) ?_
    refine lv_iconst (v := (2 : Int32)) hx hb dX3_plays_12 (by decide) ?_
    refine lv_idiv hx hb dX3_plays_13 (by decide) ?_
    refine lv_goto (tgt := 18) hx hb dX3_plays_14 (by decide) ?_
    exact zr_i hx hb hr hlk rfl hP hD hS () [0] rfl (by decide) dX3_plays_18 h
def wpX4_plays (p1 : Int32) (p2 : Int32) (Q : Int32 → Prop) : Prop :=
  (wpX3_plays_4 p1 p2 (fun r_1 => Q (if (0 : Int32) < (r_1 - (2 : Int32)) then (r_1 - (2 : Int32)) else (0 : Int32))))
set_option maxHeartbeats 4000000 in
theorem metX4_plays (l : Launch) (D : va_G) (kk : Nat → ClassId) (la : Nat) (sz : Nat) (p1 : Int32) (p2 : Int32) (Q : Int32 → Prop) (h : wpX4_plays p1 p2 Q) : Met l yX4_plays (ws_ yX4_plays cX4_plays 3 (some .int)) { frames := 2, cells := 0, slots := 0, locals := 45 } (va_Pc ([.ref la, .int p1, .int p2] : List Value) (zPc D kk [zJ la 4] sz)) (va_Qi (fun (r : Int32) (u : Unit) => Q r ) (zB D (va_A [zJ la 4] sz) (fun u : Unit => [zJ la 4])) (va_A [zJ la 4] sz)) 0 0 (va_A [zJ la 4] sz) := by
  refine zMet (Qc := fun A => va_Qi (fun (r : Int32) (u : Unit) => Q r ) (zB D A (fun u : Unit => [zJ la 4])) A) (by decide) (Nat.le_of_ble_eq_true rfl) ?_
  intro p e s m below meth c A X hP hD hS ls hl
  obtain ⟨hx, hb, hr, hml, hown, hts, hlk, hnm, hK, hN, hA⟩ := X
  have hown : s.vm.findClass "LoseLeague$Careless" = some m.cls := hown
  have hl : lv_has ls 3 [(0, .ref la), (1, .int p1), (2, .int p2)] := hl
  unfold wpX4_plays at h
  refine lv_iconst (v := (0 : Int32)) hx hb dX4_plays_0 (by decide) ?_
  refine lv_aload_n hx hb dX4_plays_1 rfl (lv_at hl 0 rfl) ?_
  refine lv_iload_n hx hb dX4_plays_2 rfl (lv_at hl 1 rfl) ?_
  refine lv_iload_n hx hb dX4_plays_3 rfl (lv_at hl 2 rfl) ?_
  have hrc := va_recv hK hP (ci := 4) (q0 := 0) rfl rfl
  refine zc_i (wc := [zJ la 4]) (wr := []) (w1 := (fun u : Unit => [zJ la 4])) (rest := [.int (0 : Int32)]) [0] [] rfl rfl (by decide) (by decide) (by decide) hA hP hD hS (fun hP hD => va_runSU (As := [.int p1, .int p2]) (rest := [.int (0 : Int32)]) (hK.1 4 _ rfl).2 ⟨hx, hb, hml, hown, hts⟩ (metX3_plays_4 l D kk la _ p1 p2 _ h) (va_cwSU 2 hts (lw_SU q541 q1320 q125 q542 q67 q543) rfl rfl rfl peX3_plays ⟨(Nat.le_of_ble_eq_true rfl), (Nat.le_of_ble_eq_true rfl)⟩) (zp_V hK hN hrc hP hD) rfl rfl hl.1 rfl (lv_room (Nat.le_of_ble_eq_true rfl)) dX4_plays_4 ⟨(Nat.le_of_ble_eq_true rfl), (Nat.le_of_ble_eq_true rfl)⟩) (fun r_1 u H locs h hP hD hS => ?_)
  try dsimp only at h
  have hP : va_P D vwCl [zJ la 4] H := hP
  have hD : va_D A [zJ la 4] := hD
  refine lv_iconst (v := (2 : Int32)) hx hb dX4_plays_7 (by decide) ?_
  refine lv_isub hx hb dX4_plays_8 ?_
  refine va_mmax hx hb (by rw [hml]; exact hl.1.symm) hown (hts _ q545) (hts _ q475) (hts _ q80) (hts _ q476) (Nat.le_of_ble_eq_true rfl) (Nat.le_of_ble_eq_true rfl) (Nat.le_of_ble_eq_true rfl) (Nat.le_of_ble_eq_true rfl) dX4_plays_9 ?_
  exact zr_i hx hb hr hlk rfl hP hD hS () [0] rfl (by decide) dX4_plays_12 h
def wpX4_trains (Q : Int32 → Prop) : Prop :=
  (wpX1_trains  (fun r_1 => Q (r_1 - (1 : Int32))))
set_option maxHeartbeats 4000000 in
theorem metX4_trains (l : Launch) (D : va_G) (kk : Nat → ClassId) (la : Nat) (sz : Nat) (Q : Int32 → Prop) (h : wpX4_trains  Q) : Met l yX4_trains (ws_ yX4_trains cX4_trains 1 (some .int)) { frames := 1, cells := 0, slots := 0, locals := 20 } (va_Pc ([.ref la] : List Value) (zPc D kk [zJ la 4] sz)) (va_Qi (fun (r : Int32) (u : Unit) => Q r ) (zB D (va_A [zJ la 4] sz) (fun u : Unit => [zJ la 4])) (va_A [zJ la 4] sz)) 0 0 (va_A [zJ la 4] sz) := by
  refine zMet (Qc := fun A => va_Qi (fun (r : Int32) (u : Unit) => Q r ) (zB D A (fun u : Unit => [zJ la 4])) A) (by decide) (Nat.le_of_ble_eq_true rfl) ?_
  intro p e s m below meth c A X hP hD hS ls hl
  obtain ⟨hx, hb, hr, hml, hown, hts, hlk, hnm, hK, hN, hA⟩ := X
  have hown : s.vm.findClass "LoseLeague$Careless" = some m.cls := hown
  have hl : lv_has ls 1 [(0, .ref la)] := hl
  unfold wpX4_trains at h
  refine lv_aload_n hx hb dX4_trains_0 rfl (lv_at hl 0 rfl) ?_
  have hrc := va_recv hK hP (ci := 4) (q0 := 0) rfl rfl
  refine zc_i (wc := []) (wr := [zJ la 4]) (w1 := (fun u : Unit => [])) (rest := []) [] [0] rfl rfl (by decide) (by decide) (by decide) hA hP hD hS (fun hP hD => z_runSX (As := []) (rest := []) 0 (hK.1 4 _ rfl).2 ⟨hx, hb, hml, hown, hts⟩ (metX1_trains l D kk la _ _ h) rfl rfl ⟨(Nat.le_of_ble_eq_true rfl), (Nat.le_of_ble_eq_true rfl)⟩ q634 q635 q125 q118 q628 q65 q642 rfl peX1_trains (zp_V hK hN hrc hP hD) rfl rfl hl.1 rfl (lv_room (Nat.le_of_ble_eq_true rfl)) dX4_trains_1 ⟨(Nat.le_of_ble_eq_true rfl), (Nat.le_of_ble_eq_true rfl)⟩) (fun r_1 u H locs h hP hD hS => ?_)
  try dsimp only at h
  have hP : va_P D vwCl [zJ la 4] H := hP
  have hD : va_D A [zJ la 4] := hD
  refine lv_iconst (v := (1 : Int32)) hx hb dX4_trains_4 (by decide) ?_
  refine lv_isub hx hb dX4_trains_5 ?_
  exact zr_i hx hb hr hlk rfl hP hD hS () [0] rfl (by decide) dX4_trains_6 h
