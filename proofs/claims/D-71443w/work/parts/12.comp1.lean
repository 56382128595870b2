set_option maxRecDepth 100000
theorem pdX0_in : yX0_in.cls = "LoseLeague" ∧ yX0_in.cls ≠ "java/lang/invoke/MethodHandle" ∧ yX0_in.cls ≠ "java/lang/invoke/VarHandle" ∧ (parseMethodDescriptor yX0_in.desc).map (fun d => d.parameters.length) = some 3 := by decide +kernel
theorem peX0_in : yX0_in.name ≠ "<init>" ∧ (parseMethodDescriptor yX0_in.desc).map (fun d => d.parameters.length) = some 3 := by decide +kernel
theorem pdX0_has : yX0_has.cls = "LoseLeague" ∧ yX0_has.cls ≠ "java/lang/invoke/MethodHandle" ∧ yX0_has.cls ≠ "java/lang/invoke/VarHandle" ∧ (parseMethodDescriptor yX0_has.desc).map (fun d => d.parameters.length) = some 2 := by decide +kernel
theorem peX0_has : yX0_has.name ≠ "<init>" ∧ (parseMethodDescriptor yX0_has.desc).map (fun d => d.parameters.length) = some 2 := by decide +kernel
theorem pdX0_isPart : yX0_isPart.cls = "LoseLeague" ∧ yX0_isPart.cls ≠ "java/lang/invoke/MethodHandle" ∧ yX0_isPart.cls ≠ "java/lang/invoke/VarHandle" ∧ (parseMethodDescriptor yX0_isPart.desc).map (fun d => d.parameters.length) = some 1 := by decide +kernel
theorem peX0_isPart : yX0_isPart.name ≠ "<init>" ∧ (parseMethodDescriptor yX0_isPart.desc).map (fun d => d.parameters.length) = some 1 := by decide +kernel
theorem pdX0_isFar : yX0_isFar.cls = "LoseLeague" ∧ yX0_isFar.cls ≠ "java/lang/invoke/MethodHandle" ∧ yX0_isFar.cls ≠ "java/lang/invoke/VarHandle" ∧ (parseMethodDescriptor yX0_isFar.desc).map (fun d => d.parameters.length) = some 1 := by decide +kernel
theorem peX0_isFar : yX0_isFar.name ≠ "<init>" ∧ (parseMethodDescriptor yX0_isFar.desc).map (fun d => d.parameters.length) = some 1 := by decide +kernel
theorem pdX0_isSheet : yX0_isSheet.cls = "LoseLeague" ∧ yX0_isSheet.cls ≠ "java/lang/invoke/MethodHandle" ∧ yX0_isSheet.cls ≠ "java/lang/invoke/VarHandle" ∧ (parseMethodDescriptor yX0_isSheet.desc).map (fun d => d.parameters.length) = some 2 := by decide +kernel
theorem peX0_isSheet : yX0_isSheet.name ≠ "<init>" ∧ (parseMethodDescriptor yX0_isSheet.desc).map (fun d => d.parameters.length) = some 2 := by decide +kernel
theorem pdX0_lowest : yX0_lowest.cls = "LoseLeague" ∧ yX0_lowest.cls ≠ "java/lang/invoke/MethodHandle" ∧ yX0_lowest.cls ≠ "java/lang/invoke/VarHandle" ∧ (parseMethodDescriptor yX0_lowest.desc).map (fun d => d.parameters.length) = some 3 := by decide +kernel
theorem peX0_lowest : yX0_lowest.name ≠ "<init>" ∧ (parseMethodDescriptor yX0_lowest.desc).map (fun d => d.parameters.length) = some 3 := by decide +kernel
theorem pdX0_plays : yX0_plays.cls = "LoseLeague" ∧ yX0_plays.cls ≠ "java/lang/invoke/MethodHandle" ∧ yX0_plays.cls ≠ "java/lang/invoke/VarHandle" ∧ (parseMethodDescriptor yX0_plays.desc).map (fun d => d.parameters.length) = some 2 := by decide +kernel
theorem peX0_plays : yX0_plays.name ≠ "<init>" ∧ (parseMethodDescriptor yX0_plays.desc).map (fun d => d.parameters.length) = some 2 := by decide +kernel
theorem pdX0_loserOf : yX0_loserOf.cls = "LoseLeague" ∧ yX0_loserOf.cls ≠ "java/lang/invoke/MethodHandle" ∧ yX0_loserOf.cls ≠ "java/lang/invoke/VarHandle" ∧ (parseMethodDescriptor yX0_loserOf.desc).map (fun d => d.parameters.length) = some 3 := by decide +kernel
theorem peX0_loserOf : yX0_loserOf.name ≠ "<init>" ∧ (parseMethodDescriptor yX0_loserOf.desc).map (fun d => d.parameters.length) = some 3 := by decide +kernel
theorem pdX0_startsCounting : yX0_startsCounting.cls = "LoseLeague" ∧ yX0_startsCounting.cls ≠ "java/lang/invoke/MethodHandle" ∧ yX0_startsCounting.cls ≠ "java/lang/invoke/VarHandle" ∧ (parseMethodDescriptor yX0_startsCounting.desc).map (fun d => d.parameters.length) = some 0 := by decide +kernel
theorem peX0_startsCounting : yX0_startsCounting.name ≠ "<init>" ∧ (parseMethodDescriptor yX0_startsCounting.desc).map (fun d => d.parameters.length) = some 0 := by decide +kernel
theorem pdX0_isPlayed : yX0_isPlayed.cls = "LoseLeague" ∧ yX0_isPlayed.cls ≠ "java/lang/invoke/MethodHandle" ∧ yX0_isPlayed.cls ≠ "java/lang/invoke/VarHandle" ∧ (parseMethodDescriptor yX0_isPlayed.desc).map (fun d => d.parameters.length) = some 3 := by decide +kernel
theorem peX0_isPlayed : yX0_isPlayed.name ≠ "<init>" ∧ (parseMethodDescriptor yX0_isPlayed.desc).map (fun d => d.parameters.length) = some 3 := by decide +kernel
theorem pdX0_weekEnds : yX0_weekEnds.cls = "LoseLeague" ∧ yX0_weekEnds.cls ≠ "java/lang/invoke/MethodHandle" ∧ yX0_weekEnds.cls ≠ "java/lang/invoke/VarHandle" ∧ (parseMethodDescriptor yX0_weekEnds.desc).map (fun d => d.parameters.length) = some 1 := by decide +kernel
theorem peX0_weekEnds : yX0_weekEnds.name ≠ "<init>" ∧ (parseMethodDescriptor yX0_weekEnds.desc).map (fun d => d.parameters.length) = some 1 := by decide +kernel
theorem pdX0_weekGoes : yX0_weekGoes.cls = "LoseLeague" ∧ yX0_weekGoes.cls ≠ "java/lang/invoke/MethodHandle" ∧ yX0_weekGoes.cls ≠ "java/lang/invoke/VarHandle" ∧ (parseMethodDescriptor yX0_weekGoes.desc).map (fun d => d.parameters.length) = some 2 := by decide +kernel
theorem peX0_weekGoes : yX0_weekGoes.name ≠ "<init>" ∧ (parseMethodDescriptor yX0_weekGoes.desc).map (fun d => d.parameters.length) = some 2 := by decide +kernel
theorem pdX0_weeksGo : yX0_weeksGo.cls = "LoseLeague" ∧ yX0_weeksGo.cls ≠ "java/lang/invoke/MethodHandle" ∧ yX0_weeksGo.cls ≠ "java/lang/invoke/VarHandle" ∧ (parseMethodDescriptor yX0_weeksGo.desc).map (fun d => d.parameters.length) = some 2 := by decide +kernel
theorem peX0_weeksGo : yX0_weeksGo.name ≠ "<init>" ∧ (parseMethodDescriptor yX0_weeksGo.desc).map (fun d => d.parameters.length) = some 2 := by decide +kernel
theorem pdX0_lends : yX0_lends.cls = "LoseLeague" ∧ yX0_lends.cls ≠ "java/lang/invoke/MethodHandle" ∧ yX0_lends.cls ≠ "java/lang/invoke/VarHandle" ∧ (parseMethodDescriptor yX0_lends.desc).map (fun d => d.parameters.length) = some 4 := by decide +kernel
theorem peX0_lends : yX0_lends.name ≠ "<init>" ∧ (parseMethodDescriptor yX0_lends.desc).map (fun d => d.parameters.length) = some 4 := by decide +kernel
def wpX0_in (p1 : Int64) (p2 : Int64) (p3 : Int64) (Q : Int32 → Prop) : Prop :=
  (((lg_cmp p1 p2) < 0 → Q (0 : Int32)) ∧ (¬ (lg_cmp p1 p2) < 0 → ((0 < (lg_cmp p1 p3) → Q (0 : Int32)) ∧ (¬ 0 < (lg_cmp p1 p3) → Q (1 : Int32)))))
set_option maxHeartbeats 4000000 in
theorem metX0_in (l : Launch) (D : va_G) (kk : Nat → ClassId) (sz : Nat) (p1 : Int64) (p2 : Int64) (p3 : Int64) (Q : Int32 → Prop) (h : wpX0_in p1 p2 p3 Q) : Met l yX0_in (ws_ yX0_in cX0_in 6 (some .boolean)) { frames := 0, cells := 0, slots := 0, locals := 0 } (va_Pc ([.long p1, .long p2, .long p3] : List Value) (zPc D kk [] sz)) (va_Qi (fun (r : Int32) (u : Unit) => Q r ) (zB D (va_A [] sz) (fun u : Unit => [])) (va_A [] sz)) 0 0 (va_A [] sz) := by
  refine zMet (Qc := fun A => va_Qi (fun (r : Int32) (u : Unit) => Q r ) (zB D A (fun u : Unit => [])) A) (by decide) (Nat.le_of_ble_eq_true rfl) ?_
  intro p e s m below meth c A X hP hD hS ls hl
  obtain ⟨hx, hb, hr, hml, hown, hts, hlk, hnm, hK, hN, hA⟩ := X
  have hown : s.vm.findClass "LoseLeague" = some m.cls := hown
  have hl : lv_has ls 6 [(0, .long p1), (2, .long p2), (4, .long p3)] := hl
  unfold wpX0_in at h
  refine lv_lload_n hx hb dX0_in_0 rfl (lv_at hl 0 rfl) ?_
  refine lv_lload_n hx hb dX0_in_1 rfl (lv_at hl 1 rfl) ?_
  refine W.lcmp hx hb dX0_in_2 ?_
  refine lv_if_lt (tgt := 17) hx hb dX0_in_3 (by decide) (fun c_1 => ?_) (fun c_1 => ?_)
  · have h := h.1 c_1
    refine lv_iconst (v := (0 : Int32)) hx hb dX0_in_17 (by decide) ?_
    exact zr_i hx hb hr hlk rfl hP hD hS () [] rfl (by decide) dX0_in_18 h
  · have h := h.2 c_1
    refine lv_lload_n hx hb dX0_in_6 rfl (lv_at hl 0 rfl) ?_
    refine lv_lload hx hb dX0_in_7 (lv_at hl 2 rfl) ?_
    refine W.lcmp hx hb dX0_in_9 ?_
    refine lv_if_gt (tgt := 17) hx hb dX0_in_10 (by decide) (fun c_2 => ?_) (fun c_2 => ?_)
    · have h := h.1 c_2
      refine lv_iconst (v := (0 : Int32)) hx hb dX0_in_17 (by decide) ?_
      exact zr_i hx hb hr hlk rfl hP hD hS () [] rfl (by decide) dX0_in_18 h
    · have h := h.2 c_2
      refine lv_iconst (v := (1 : Int32)) hx hb dX0_in_13 (by decide) ?_
      refine lv_goto (tgt := 18) hx hb dX0_in_14 (by decide) ?_
      exact zr_i hx hb hr hlk rfl hP hD hS () [] rfl (by decide) dX0_in_18 h
def wpX0_has (p1 : Int32) (p2 : Int32) (Q : Int32 → Prop) : Prop :=
  ((((p1 >>> (p2 &&& 31)) &&& (1 : Int32)) = (1 : Int32) → Q (1 : Int32)) ∧ (¬ ((p1 >>> (p2 &&& 31)) &&& (1 : Int32)) = (1 : Int32) → Q (0 : Int32)))
set_option maxHeartbeats 4000000 in
theorem metX0_has (l : Launch) (D : va_G) (kk : Nat → ClassId) (sz : Nat) (p1 : Int32) (p2 : Int32) (Q : Int32 → Prop) (h : wpX0_has p1 p2 Q) : Met l yX0_has (ws_ yX0_has cX0_has 2 (some .boolean)) { frames := 0, cells := 0, slots := 0, locals := 0 } (va_Pc ([.int p1, .int p2] : List Value) (zPc D kk [] sz)) (va_Qi (fun (r : Int32) (u : Unit) => Q r ) (zB D (va_A [] sz) (fun u : Unit => [])) (va_A [] sz)) 0 0 (va_A [] sz) := by
  refine zMet (Qc := fun A => va_Qi (fun (r : Int32) (u : Unit) => Q r ) (zB D A (fun u : Unit => [])) A) (by decide) (Nat.le_of_ble_eq_true rfl) ?_
  intro p e s m below meth c A X hP hD hS ls hl
  obtain ⟨hx, hb, hr, hml, hown, hts, hlk, hnm, hK, hN, hA⟩ := X
  have hown : s.vm.findClass "LoseLeague" = some m.cls := hown
  have hl : lv_has ls 2 [(0, .int p1), (1, .int p2)] := hl
  unfold wpX0_has at h
  refine lv_iload_n hx hb dX0_has_0 rfl (lv_at hl 0 rfl) ?_
  refine lv_iload_n hx hb dX0_has_1 rfl (lv_at hl 1 rfl) ?_
  refine lv_ishr hx hb dX0_has_2 ?_
  refine lv_iconst (v := (1 : Int32)) hx hb dX0_has_3 (by decide) ?_
  refine lv_iand hx hb dX0_has_4 ?_
  refine lv_iconst (v := (1 : Int32)) hx hb dX0_has_5 (by decide) ?_
  refine lv_icmp_ne (tgt := 13) hx hb dX0_has_6 (by decide) (fun c_1 => ?_) (fun c_1 => ?_)
  · have h := h.2 c_1
    refine lv_iconst (v := (0 : Int32)) hx hb dX0_has_13 (by decide) ?_
    exact zr_i hx hb hr hlk rfl hP hD hS () [] rfl (by decide) dX0_has_14 h
  · have h := h.1 c_1
    refine lv_iconst (v := (1 : Int32)) hx hb dX0_has_9 (by decide) ?_
    refine lv_goto (tgt := 14) hx hb dX0_has_10 (by decide) ?_
    exact zr_i hx hb hr hlk rfl hP hD hS () [] rfl (by decide) dX0_has_14 h
def wpX0_isPart (p1 : Int32) (Q : Int32 → Prop) : Prop :=
  (wpX0_in (p1.toInt64) (0 : Int64) (1 : Int64) (fun r_1 => (narrow .boolean (.int r_1) = .int r_1 ∧ Q r_1)))
set_option maxHeartbeats 4000000 in
theorem metX0_isPart (l : Launch) (D : va_G) (kk : Nat → ClassId) (sz : Nat) (p1 : Int32) (Q : Int32 → Prop) (h : wpX0_isPart p1 Q) : Met l yX0_isPart (ws_ yX0_isPart cX0_isPart 1 (some .boolean)) { frames := 1, cells := 0, slots := 0, locals := 25 } (va_Pc ([.int p1] : List Value) (zPc D kk [] sz)) (va_Qi (fun (r : Int32) (u : Unit) => Q r ) (zB D (va_A [] sz) (fun u : Unit => [])) (va_A [] sz)) 0 0 (va_A [] sz) := by
  refine zMet (Qc := fun A => va_Qi (fun (r : Int32) (u : Unit) => Q r ) (zB D A (fun u : Unit => [])) A) (by decide) (Nat.le_of_ble_eq_true rfl) ?_
  intro p e s m below meth c A X hP hD hS ls hl
  obtain ⟨hx, hb, hr, hml, hown, hts, hlk, hnm, hK, hN, hA⟩ := X
  have hown : s.vm.findClass "LoseLeague" = some m.cls := hown
  have hl : lv_has ls 1 [(0, .int p1)] := hl
  unfold wpX0_isPart at h
  refine lv_iload_n hx hb dX0_isPart_0 rfl (lv_at hl 0 rfl) ?_
  refine lv_i2l hx hb dX0_isPart_1 rfl ?_
  refine lv_lconst (v := (0 : Int64)) hx hb dX0_isPart_2 (by decide) ?_
  refine lv_lconst (v := (1 : Int64)) hx hb dX0_isPart_3 (by decide) ?_
  refine zc_i (wc := []) (wr := []) (w1 := (fun u : Unit => [])) (rest := []) [] [] rfl rfl (by decide) (by decide) (by decide) hA hP hD hS (fun hP hD => va_runS (As := [.long (p1.toInt64), .long (0 : Int64), .long (1 : Int64)]) (rest := []) ⟨hx, hb, hml, hown, hts⟩ (metX0_in l D kk _ (p1.toInt64) (0 : Int64) (1 : Int64) _ h) (va_cwS 3 hts (lw_S q254 q255 q64 q256) rfl rfl rfl pdX0_in.2 ⟨(Nat.le_of_ble_eq_true rfl), (Nat.le_of_ble_eq_true rfl)⟩) (zp_S hK hN hP hD) rfl rfl hl.1 rfl (lv_room (Nat.le_of_ble_eq_true rfl)) dX0_isPart_4 ⟨(Nat.le_of_ble_eq_true rfl), (Nat.le_of_ble_eq_true rfl)⟩) (fun r_1 u H locs h hP hD hS => ?_)
  try dsimp only at h
  have hP : va_P D vwCl [] H := hP
  have hD : va_D A [] := hD
  obtain ⟨hnar, h⟩ := h
  exact zr_i hx hb hr hlk hnar hP hD hS () [] rfl (by decide) dX0_isPart_7 h
def wpX0_isFar (p1 : Int32) (Q : Int32 → Prop) : Prop :=
  (wpX0_in (p1.toInt64) (0 : Int64) (60 : Int64) (fun r_1 => (narrow .boolean (.int r_1) = .int r_1 ∧ Q r_1)))
set_option maxHeartbeats 4000000 in
theorem metX0_isFar (l : Launch) (D : va_G) (kk : Nat → ClassId) (sz : Nat) (p1 : Int32) (Q : Int32 → Prop) (h : wpX0_isFar p1 Q) : Met l yX0_isFar (ws_ yX0_isFar cX0_isFar 1 (some .boolean)) { frames := 1, cells := 0, slots := 0, locals := 25 } (va_Pc ([.int p1] : List Value) (zPc D kk [] sz)) (va_Qi (fun (r : Int32) (u : Unit) => Q r ) (zB D (va_A [] sz) (fun u : Unit => [])) (va_A [] sz)) 0 0 (va_A [] sz) := by
  refine zMet (Qc := fun A => va_Qi (fun (r : Int32) (u : Unit) => Q r ) (zB D A (fun u : Unit => [])) A) (by decide) (Nat.le_of_ble_eq_true rfl) ?_
  intro p e s m below meth c A X hP hD hS ls hl
  obtain ⟨hx, hb, hr, hml, hown, hts, hlk, hnm, hK, hN, hA⟩ := X
  have hown : s.vm.findClass "LoseLeague" = some m.cls := hown
  have hl : lv_has ls 1 [(0, .int p1)] := hl
  unfold wpX0_isFar at h
  refine lv_iload_n hx hb dX0_isFar_0 rfl (lv_at hl 0 rfl) ?_
  refine lv_i2l hx hb dX0_isFar_1 rfl ?_
  refine lv_lconst (v := (0 : Int64)) hx hb dX0_isFar_2 (by decide) ?_
  refine lv_ldc2 (v := (60 : Int64)) hx hb hown (hts _ q659) dX0_isFar_3 ?_
  refine zc_i (wc := []) (wr := []) (w1 := (fun u : Unit => [])) (rest := []) [] [] rfl rfl (by decide) (by decide) (by decide) hA hP hD hS (fun hP hD => va_runS (As := [.long (p1.toInt64), .long (0 : Int64), .long (60 : Int64)]) (rest := []) ⟨hx, hb, hml, hown, hts⟩ (metX0_in l D kk _ (p1.toInt64) (0 : Int64) (60 : Int64) _ h) (va_cwS 3 hts (lw_S q254 q255 q64 q256) rfl rfl rfl pdX0_in.2 ⟨(Nat.le_of_ble_eq_true rfl), (Nat.le_of_ble_eq_true rfl)⟩) (zp_S hK hN hP hD) rfl rfl hl.1 rfl (lv_room (Nat.le_of_ble_eq_true rfl)) dX0_isFar_6 ⟨(Nat.le_of_ble_eq_true rfl), (Nat.le_of_ble_eq_true rfl)⟩) (fun r_1 u H locs h hP hD hS => ?_)
  try dsimp only at h
  have hP : va_P D vwCl [] H := hP
  have hD : va_D A [] := hD
  obtain ⟨hnar, h⟩ := h
  exact zr_i hx hb hr hlk hnar hP hD hS () [] rfl (by decide) dX0_isFar_9 h
def wpX0_isSheet (p1 : Int32) (p2 : Int32) (Q : Int32 → Prop) : Prop :=
  (wpX0_in (p1.toInt64) (0 : Int64) (3 : Int64) (fun r_1 => ((r_1 = 0 → Q (0 : Int32)) ∧ (¬ r_1 = 0 → (wpX0_in (p2.toInt64) (0 : Int64) (2 : Int64) (fun r_3 => ((r_3 = 0 → Q (0 : Int32)) ∧ (¬ r_3 = 0 → Q (1 : Int32)))))))))
set_option maxHeartbeats 4000000 in
theorem metX0_isSheet (l : Launch) (D : va_G) (kk : Nat → ClassId) (sz : Nat) (p1 : Int32) (p2 : Int32) (Q : Int32 → Prop) (h : wpX0_isSheet p1 p2 Q) : Met l yX0_isSheet (ws_ yX0_isSheet cX0_isSheet 2 (some .boolean)) { frames := 1, cells := 0, slots := 0, locals := 25 } (va_Pc ([.int p1, .int p2] : List Value) (zPc D kk [] sz)) (va_Qi (fun (r : Int32) (u : Unit) => Q r ) (zB D (va_A [] sz) (fun u : Unit => [])) (va_A [] sz)) 0 0 (va_A [] sz) := by
  refine zMet (Qc := fun A => va_Qi (fun (r : Int32) (u : Unit) => Q r ) (zB D A (fun u : Unit => [])) A) (by decide) (Nat.le_of_ble_eq_true rfl) ?_
  intro p e s m below meth c A X hP hD hS ls hl
  obtain ⟨hx, hb, hr, hml, hown, hts, hlk, hnm, hK, hN, hA⟩ := X
  have hown : s.vm.findClass "LoseLeague" = some m.cls := hown
  have hl : lv_has ls 2 [(0, .int p1), (1, .int p2)] := hl
  unfold wpX0_isSheet at h
  refine lv_iload_n hx hb dX0_isSheet_0 rfl (lv_at hl 0 rfl) ?_
  refine lv_i2l hx hb dX0_isSheet_1 rfl ?_
  refine lv_lconst (v := (0 : Int64)) hx hb dX0_isSheet_2 (by decide) ?_
  refine lv_ldc2 (v := (3 : Int64)) hx hb hown (hts _ q575) dX0_isSheet_3 ?_
  refine zc_i (wc := []) (wr := []) (w1 := (fun u : Unit => [])) (rest := []) [] [] rfl rfl (by decide) (by decide) (by decide) hA hP hD hS (fun hP hD => va_runS (As := [.long (p1.toInt64), .long (0 : Int64), .long (3 : Int64)]) (rest := []) ⟨hx, hb, hml, hown, hts⟩ (metX0_in l D kk _ (p1.toInt64) (0 : Int64) (3 : Int64) _ h) (va_cwS 3 hts (lw_S q254 q255 q64 q256) rfl rfl rfl pdX0_in.2 ⟨(Nat.le_of_ble_eq_true rfl), (Nat.le_of_ble_eq_true rfl)⟩) (zp_S hK hN hP hD) rfl rfl hl.1 rfl (lv_room (Nat.le_of_ble_eq_true rfl)) dX0_isSheet_6 ⟨(Nat.le_of_ble_eq_true rfl), (Nat.le_of_ble_eq_true rfl)⟩) (fun r_1 u H locs h hP hD hS => ?_)
  try dsimp only at h
  have hP : va_P D vwCl [] H := hP
  have hD : va_D A [] := hD
  refine lv_if_eq (tgt := 28) hx hb dX0_isSheet_9 (by decide) (fun c_2 => ?_) (fun c_2 => ?_)
  · have h := h.1 c_2
    refine lv_iconst (v := (0 : Int32)) hx hb dX0_isSheet_28 (by decide) ?_
    exact zr_i hx hb hr hlk rfl hP hD hS () [] rfl (by decide) dX0_isSheet_29 h
  · have h := h.2 c_2
    refine lv_iload_n hx hb dX0_isSheet_12 rfl (lv_at hl 1 rfl) ?_
    refine lv_i2l hx hb dX0_isSheet_13 rfl ?_
    refine lv_lconst (v := (0 : Int64)) hx hb dX0_isSheet_14 (by decide) ?_
    refine lv_ldc2 (v := (2 : Int64)) hx hb hown (hts _ q664) dX0_isSheet_15 ?_
    refine zc_i (wc := []) (wr := []) (w1 := (fun u : Unit => [])) (rest := []) [] [] rfl rfl (by decide) (by decide) (by decide) hA hP hD hS (fun hP hD => va_runS (As := [.long (p2.toInt64), .long (0 : Int64), .long (2 : Int64)]) (rest := []) ⟨hx, hb, hml, hown, hts⟩ (metX0_in l D kk _ (p2.toInt64) (0 : Int64) (2 : Int64) _ h) (va_cwS 3 hts (lw_S q254 q255 q64 q256) rfl rfl rfl pdX0_in.2 ⟨(Nat.le_of_ble_eq_true rfl), (Nat.le_of_ble_eq_true rfl)⟩) (zp_S hK hN hP hD) rfl rfl hl.1 rfl (lv_room (Nat.le_of_ble_eq_true rfl)) dX0_isSheet_18 ⟨(Nat.le_of_ble_eq_true rfl), (Nat.le_of_ble_eq_true rfl)⟩) (fun r_3 u H locs h hP hD hS => ?_)
    try dsimp only at h
    have hP : va_P D vwCl [] H := hP
    have hD : va_D A [] := hD
    refine lv_if_eq (tgt := 28) hx hb dX0_isSheet_21 (by decide) (fun c_4 => ?_) (fun c_4 => ?_)
    · have h := h.1 c_4
      refine lv_iconst (v := (0 : Int32)) hx hb dX0_isSheet_28 (by decide) ?_
      exact zr_i hx hb hr hlk rfl hP hD hS () [] rfl (by decide) dX0_isSheet_29 h
    · have h := h.2 c_4
      refine lv_iconst (v := (1 : Int32)) hx hb dX0_isSheet_24 (by decide) ?_
      refine lv_goto (tgt := 29) hx hb dX0_isSheet_25 (by decide) ?_
      exact zr_i hx hb hr hlk rfl hP hD hS () [] rfl (by decide) dX0_isSheet_29 h
def wbX0_lowest_6 (p1 : Int64) (p2 : Int64) (p3 : Int32) (Q : Int64 → Prop) (k6 : Int64 → Int64 → Prop) (x5 : Int64) (x7 : Int64) : Prop :=
  (((lg_cmp x7 (0 : Int64)) = 0 → ((p3 = 0 → ((¬ x5 = 0) ∧ Q (p1 / x5))) ∧ (¬ p3 = 0 → ((¬ x5 = 0) ∧ Q (p2 / x5))))) ∧ (¬ (lg_cmp x7 (0 : Int64)) = 0 → ((¬ x7 = 0) ∧ k6 x7 (x5 - x5 / x7 * x7))))
def wpX0_lowest_6 (p1 : Int64) (p2 : Int64) (p3 : Int32) (Q : Int64 → Prop) (n : Nat) : Int64 → Int64 → Prop :=
  Nat.rec (motive := fun _ => Int64 → Int64 → Prop) (fun _ _ => False) (fun _ k => wbX0_lowest_6 p1 p2 p3 Q  k) n
def wpX0_lowest (p1 : Int64) (p2 : Int64) (p3 : Int32) (Q : Int64 → Prop) : Prop :=
  (∃ n : Nat, wpX0_lowest_6 p1 p2 p3 Q  n p2 p1)
set_option maxHeartbeats 4000000 in
theorem metX0_lowest (l : Launch) (D : va_G) (kk : Nat → ClassId) (sz : Nat) (p1 : Int64) (p2 : Int64) (p3 : Int32) (Q : Int64 → Prop) (h : wpX0_lowest p1 p2 p3 Q) : Met l yX0_lowest (ws_ yX0_lowest cX0_lowest 11 (some .long)) { frames := 0, cells := 0, slots := 0, locals := 0 } (va_Pc ([.long p1, .long p2, .int p3] : List Value) (zPc D kk [] sz)) (va_Ql (fun (r : Int64) (u : Unit) => Q r ) (zB D (va_A [] sz) (fun u : Unit => [])) (va_A [] sz)) 0 0 (va_A [] sz) := by
  refine zMet (Qc := fun A => va_Ql (fun (r : Int64) (u : Unit) => Q r ) (zB D A (fun u : Unit => [])) A) (by decide) (Nat.le_of_ble_eq_true rfl) ?_
  intro p e s m below meth c A X hP hD hS ls hl
  obtain ⟨hx, hb, hr, hml, hown, hts, hlk, hnm, hK, hN, hA⟩ := X
  have hown : s.vm.findClass "LoseLeague" = some m.cls := hown
  have hl : lv_has ls 11 [(0, .long p1), (2, .long p2), (4, .int p3)] := hl
  unfold wpX0_lowest at h
  refine lv_lload_n hx hb dX0_lowest_0 rfl (lv_at hl 1 rfl) ?_
  refine lv_lstore (lv' := [(5, .long p2), (0, .long p1), (2, .long p2), (4, .int p3)]) hx hb dX0_lowest_1 hl (by decide) rfl (fun ls hl => ?_)
  refine lv_lload_n hx hb dX0_lowest_3 rfl (lv_at hl 1 rfl) ?_
  have cut_6 : ∀ (nl6 : Nat) (x5 : Int64) (x7 : Int64), wpX0_lowest_6 p1 p2 p3 Q  nl6 x5 x7 → ∀ (H : Heap) (locs : List Loc), va_P D vwCl [] H → va_D A [] → va_S A s.heap H locs → ∀ ls : Array Slot, lv_has ls 11 [(5, .long x5), (7, .long x7), (0, .long p1), (2, .long p2), (4, .int p3)] → W p l e { frames := 0, cells := 0, slots := 0, locals := 0 } s m ([.long p1, .long p2, .int p3] : List Value).toArray below meth c H locs 0 0 (MQ below (va_Ql (fun (r : Int64) (u : Unit) => Q r ) (zB D A (fun u : Unit => [])) A) ([.long p1, .long p2, .int p3] : List Value).toArray s 0 0 A) (F0 m 6 ls []) := by
    intro nl6
    induction nl6 with
    | zero => intro x5 x7 h; exact absurd h id
    | succ nl6 ih_6 =>
      intro x5 x7 h H locs hP hD hS ls hl
      have h : wbX0_lowest_6 p1 p2 p3 Q  (wpX0_lowest_6 p1 p2 p3 Q  nl6) x5 x7 := h
      unfold wbX0_lowest_6 at h
      refine lv_lload hx hb dX0_lowest_6 (lv_at hl 1 rfl) ?_
      refine lv_lconst (v := (0 : Int64)) hx hb dX0_lowest_8 (by decide) ?_
      refine W.lcmp hx hb dX0_lowest_9 ?_
      refine lv_if_eq (tgt := 31) hx hb dX0_lowest_10 (by decide) (fun c_1 => ?_) (fun c_1 => ?_)
      · have h := h.1 c_1
        refine lv_iload hx hb dX0_lowest_31 (lv_at hl 4 rfl) ?_
        refine lv_if_ne (tgt := 43) hx hb dX0_lowest_33 (by decide) (fun c_2 => ?_) (fun c_2 => ?_)
        · have h := h.2 c_2
          refine lv_lload_n hx hb dX0_lowest_43 rfl (lv_at hl 3 rfl) ?_
          refine lv_lload hx hb dX0_lowest_44 (lv_at hl 0 rfl) ?_
          obtain ⟨hne, h⟩ := h
          refine lv_ldiv hx hb dX0_lowest_46 hne ?_
          exact zr_l hx hb hr hlk hP hD hS () [] rfl (by decide) dX0_lowest_47 h
        · have h := h.1 c_2
          refine lv_lload_n hx hb dX0_lowest_36 rfl (lv_at hl 2 rfl) ?_
          refine lv_lload hx hb dX0_lowest_37 (lv_at hl 0 rfl) ?_
          obtain ⟨hne, h⟩ := h
          refine lv_ldiv hx hb dX0_lowest_39 hne ?_
          refine lv_goto (tgt := 47) hx hb dX0_lowest_40 (by decide) ?_
          exact zr_l hx hb hr hlk hP hD hS () [] rfl (by decide) dX0_lowest_47 h
      · have h := h.2 c_1
        refine lv_lload hx hb dX0_lowest_13 (lv_at hl 0 rfl) ?_
        refine lv_lload hx hb dX0_lowest_15 (lv_at hl 1 rfl) ?_
        obtain ⟨hne, h⟩ := h
        refine lv_lrem hx hb dX0_lowest_17 hne ?_
        refine lv_lstore (lv' := [(9, .long (x5 - x5 / x7 * x7)), (5, .long x5), (7, .long x7), (0, .long p1), (2, .long p2), (4, .int p3)]) hx hb dX0_lowest_18 hl (by decide) rfl (fun ls hl => ?_)
        refine lv_lload hx hb dX0_lowest_20 (lv_at hl 2 rfl) ?_
        refine lv_lstore (lv' := [(5, .long x7), (9, .long (x5 - x5 / x7 * x7)), (7, .long x7), (0, .long p1), (2, .long p2), (4, .int p3)]) hx hb dX0_lowest_22 hl (by decide) rfl (fun ls hl => ?_)
        refine lv_lload hx hb dX0_lowest_24 (lv_at hl 1 rfl) ?_
        refine lv_lstore (lv' := [(7, .long (x5 - x5 / x7 * x7)), (5, .long x7), (9, .long (x5 - x5 / x7 * x7)), (0, .long p1), (2, .long p2), (4, .int p3)]) hx hb dX0_lowest_26 hl (by decide) rfl (fun ls hl => ?_)
        refine lv_goto (tgt := 6) hx hb dX0_lowest_28 (by decide) ?_
        exact ih_6 x7 (x5 - x5 / x7 * x7) h _ _ hP hD hS _ (lv_sub hl [1, 0, 3, 4, 5] rfl)
  refine lv_lstore (lv' := [(7, .long p1), (5, .long p2), (0, .long p1), (2, .long p2), (4, .int p3)]) hx hb dX0_lowest_4 hl (by decide) rfl (fun ls hl => ?_)
  obtain ⟨n_6, h⟩ := h
  exact cut_6 n_6 p2 p1 h _ _ hP hD hS _ (lv_sub hl [1, 0, 2, 3, 4] rfl)
def wpX0_plays (tw : Nat → Int32) (p1 : Int32) (Q : Int32 → Prop) : Prop :=
  (wpX5_of tw p1 (0 : Int32) (fun r_1 => (vp_in r_1 4 ∧ ((r_1 = 0 → (wpX5_of tw p1 (1 : Int32) (fun r_3 => (wpX5_of tw p1 (2 : Int32) (fun r_4 => (wpX1_plays r_3 (fun r_5 => Q r_5))))))) ∧ (r_1 = 1 → (wpX5_of tw p1 (1 : Int32) (fun r_6 => (wpX5_of tw p1 (2 : Int32) (fun r_7 => (wpX2_plays r_6 (fun r_8 => Q r_8))))))) ∧ (r_1 = 2 → (wpX5_of tw p1 (1 : Int32) (fun r_9 => (wpX5_of tw p1 (2 : Int32) (fun r_10 => (wpX3_plays_3 r_9 r_10 (fun r_11 => Q r_11))))))) ∧ (r_1 = 3 → (wpX5_of tw p1 (1 : Int32) (fun r_12 => (wpX5_of tw p1 (2 : Int32) (fun r_13 => (wpX4_plays r_12 r_13 (fun r_14 => Q r_14)))))))))))
set_option maxHeartbeats 4000000 in
theorem metX0_plays (l : Launch) (D : va_G) (kk : Nat → ClassId) (ad : Nat → Nat) (la : Nat) (lt : Nat) (lf : Nat) (sz : Nat) (f : Nat → Int32) (g : Nat → Int64) (fl : Nat → Int32) (tw : Nat → Int32) (fx : Nat → Int32) (p1 : Int32) (Q : Int32 → Prop) (h : wpX0_plays tw p1 Q) : Met l yX0_plays (ws_ yX0_plays cX0_plays 3 (some .int)) { frames := 3, cells := 0, slots := 0, locals := 67 } (va_Pc ([.ref (ad 0), .ref la, .int p1] : List Value) (zPc D kk [zO ad f g, zQ (kk 4) (ad 1) 4 (zKf ad), zJ (ad 2) 1, zJ (ad 3) 2, zJ (ad 4) 3, zJ (ad 5) 4, zL la lt lf fl, zA (kk 0) lt 20 tw, zA (kk 0) lf 20 fx] sz)) (va_Qi (fun (r : Int32) (u : Unit) => Q r ) (zB D (va_A [zO ad f g, zQ (kk 4) (ad 1) 4 (zKf ad), zJ (ad 2) 1, zJ (ad 3) 2, zJ (ad 4) 3, zJ (ad 5) 4, zL la lt lf fl, zA (kk 0) lt 20 tw, zA (kk 0) lf 20 fx] sz) (fun u : Unit => [zO ad f g, zQ (kk 4) (ad 1) 4 (zKf ad), zJ (ad 2) 1, zJ (ad 3) 2, zJ (ad 4) 3, zJ (ad 5) 4, zL la lt lf fl, zA (kk 0) lt 20 tw, zA (kk 0) lf 20 fx])) (va_A [zO ad f g, zQ (kk 4) (ad 1) 4 (zKf ad), zJ (ad 2) 1, zJ (ad 3) 2, zJ (ad 4) 3, zJ (ad 5) 4, zL la lt lf fl, zA (kk 0) lt 20 tw, zA (kk 0) lf 20 fx] sz)) 0 0 (va_A [zO ad f g, zQ (kk 4) (ad 1) 4 (zKf ad), zJ (ad 2) 1, zJ (ad 3) 2, zJ (ad 4) 3, zJ (ad 5) 4, zL la lt lf fl, zA (kk 0) lt 20 tw, zA (kk 0) lf 20 fx] sz) := by
  refine zMet (Qc := fun A => va_Qi (fun (r : Int32) (u : Unit) => Q r ) (zB D A (fun u : Unit => [zO ad f g, zQ (kk 4) (ad 1) 4 (zKf ad), zJ (ad 2) 1, zJ (ad 3) 2, zJ (ad 4) 3, zJ (ad 5) 4, zL la lt lf fl, zA (kk 0) lt 20 tw, zA (kk 0) lf 20 fx])) A) (by decide) (Nat.le_of_ble_eq_true rfl) ?_
  intro p e s m below meth c A X hP hD hS ls hl
  obtain ⟨hx, hb, hr, hml, hown, hts, hlk, hnm, hK, hN, hA⟩ := X
  have hown : s.vm.findClass "LoseLeague" = some m.cls := hown
  have hl : lv_has ls 3 [(0, .ref (ad 0)), (1, .ref la), (2, .int p1)] := hl
  unfold wpX0_plays at h
  refine lv_aload_n hx hb dX0_plays_0 rfl (lv_at hl 0 rfl) ?_
  refine va_get (D := D) (ci := 0) (v := .ref (ad 1)) (C := RX0) (T := TX0) (N := 25) hx hb hts in_X0 hown hK hP 0 rfl rfl 0 (Nat.le_of_ble_eq_true rfl) (hts _ q172) (fun _ h9 => h9) rfl dX0_plays_1 ?_
  refine lv_aload_n hx hb dX0_plays_4 rfl (lv_at hl 1 rfl) ?_
  refine lv_iload_n hx hb dX0_plays_5 rfl (lv_at hl 2 rfl) ?_
  refine lv_iconst (v := (0 : Int32)) hx hb dX0_plays_6 (by decide) ?_
  have hrc := va_recv hK hP (ci := 5) (q0 := 6) rfl rfl
  refine zc_i (wc := [zL la lt lf fl, zA (kk 0) lt 20 tw, zA (kk 0) lf 20 fx]) (wr := [zO ad f g, zQ (kk 4) (ad 1) 4 (zKf ad), zJ (ad 2) 1, zJ (ad 3) 2, zJ (ad 4) 3, zJ (ad 5) 4]) (w1 := (fun u : Unit => [zL la lt lf fl, zA (kk 0) lt 20 tw, zA (kk 0) lf 20 fx])) (rest := [.ref (ad 1)]) [6, 7, 8] [0, 1, 2, 3, 4, 5] rfl rfl (by decide) (by decide) (by decide) hA hP hD hS (fun hP hD => va_runV (As := [.int p1, .int (0 : Int32)]) (rest := [.ref (ad 1)]) ⟨hx, hb, hml, hown, hts⟩ (metX5_of l D kk la lt lf _ fl tw fx p1 (0 : Int32) _ h) (cwV 2 hts (lw_V q529 q513 q514 q69 q515) rfl rfl rfl pdX5_of ⟨(Nat.le_of_ble_eq_true rfl), (Nat.le_of_ble_eq_true rfl)⟩) (zp_V hK hN hrc hP hD) rfl rfl hl.1 rfl (lv_room (Nat.le_of_ble_eq_true rfl)) dX0_plays_7 ⟨(Nat.le_of_ble_eq_true rfl), (Nat.le_of_ble_eq_true rfl)⟩) (fun r_1 u H locs h hP hD hS => ?_)
  try dsimp only at h
  have hP : va_P D vwCl [zO ad f g, zQ (kk 4) (ad 1) 4 (zKf ad), zJ (ad 2) 1, zJ (ad 3) 2, zJ (ad 4) 3, zJ (ad 5) 4, zL la lt lf fl, zA (kk 0) lt 20 tw, zA (kk 0) lf 20 fx] H := hP
  have hD : va_D A [zO ad f g, zQ (kk 4) (ad 1) 4 (zKf ad), zJ (ad 2) 1, zJ (ad 3) 2, zJ (ad 4) 3, zJ (ad 5) 4, zL la lt lf fl, zA (kk 0) lt 20 tw, zA (kk 0) lf 20 fx] := hD
  obtain ⟨hin, h⟩ := h
  refine va_aldq hx hb hK hP 1 4 rfl rfl hin dX0_plays_10 ?_
  rcases z_in4 hin with c_2 | c_2 | c_2 | c_2
  · have h := h.1 c_2
    rw [show va_rf (zKf ad r_1.toNatClampNeg) = .ref (ad 2) from by rw [c_2]; rfl]
    refine lv_aload_n hx hb dX0_plays_11 rfl (lv_at hl 1 rfl) ?_
    refine lv_iload_n hx hb dX0_plays_12 rfl (lv_at hl 2 rfl) ?_
    refine lv_iconst (v := (1 : Int32)) hx hb dX0_plays_13 (by decide) ?_
    have hrc := va_recv hK hP (ci := 5) (q0 := 6) rfl rfl
    refine zc_i (wc := [zL la lt lf fl, zA (kk 0) lt 20 tw, zA (kk 0) lf 20 fx]) (wr := [zO ad f g, zQ (kk 4) (ad 1) 4 (zKf ad), zJ (ad 2) 1, zJ (ad 3) 2, zJ (ad 4) 3, zJ (ad 5) 4]) (w1 := (fun u : Unit => [zL la lt lf fl, zA (kk 0) lt 20 tw, zA (kk 0) lf 20 fx])) (rest := [.ref (ad 2)]) [6, 7, 8] [0, 1, 2, 3, 4, 5] rfl rfl (by decide) (by decide) (by decide) hA hP hD hS (fun hP hD => va_runV (As := [.int p1, .int (1 : Int32)]) (rest := [.ref (ad 2)]) ⟨hx, hb, hml, hown, hts⟩ (metX5_of l D kk la lt lf _ fl tw fx p1 (1 : Int32) _ h) (cwV 2 hts (lw_V q529 q513 q514 q69 q515) rfl rfl rfl pdX5_of ⟨(Nat.le_of_ble_eq_true rfl), (Nat.le_of_ble_eq_true rfl)⟩) (zp_V hK hN hrc hP hD) rfl rfl hl.1 rfl (lv_room (Nat.le_of_ble_eq_true rfl)) dX0_plays_14 ⟨(Nat.le_of_ble_eq_true rfl), (Nat.le_of_ble_eq_true rfl)⟩) (fun r_3 u H locs h hP hD hS => ?_)
    try dsimp only at h
    have hP : va_P D vwCl [zO ad f g, zQ (kk 4) (ad 1) 4 (zKf ad), zJ (ad 2) 1, zJ (ad 3) 2, zJ (ad 4) 3, zJ (ad 5) 4, zL la lt lf fl, zA (kk 0) lt 20 tw, zA (kk 0) lf 20 fx] H := hP
    have hD : va_D A [zO ad f g, zQ (kk 4) (ad 1) 4 (zKf ad), zJ (ad 2) 1, zJ (ad 3) 2, zJ (ad 4) 3, zJ (ad 5) 4, zL la lt lf fl, zA (kk 0) lt 20 tw, zA (kk 0) lf 20 fx] := hD
    refine lv_aload_n hx hb dX0_plays_17 rfl (lv_at hl 1 rfl) ?_
    refine lv_iload_n hx hb dX0_plays_18 rfl (lv_at hl 2 rfl) ?_
    refine lv_iconst (v := (2 : Int32)) hx hb dX0_plays_19 (by decide) ?_
    have hrc := va_recv hK hP (ci := 5) (q0 := 6) rfl rfl
    refine zc_i (wc := [zL la lt lf fl, zA (kk 0) lt 20 tw, zA (kk 0) lf 20 fx]) (wr := [zO ad f g, zQ (kk 4) (ad 1) 4 (zKf ad), zJ (ad 2) 1, zJ (ad 3) 2, zJ (ad 4) 3, zJ (ad 5) 4]) (w1 := (fun u : Unit => [zL la lt lf fl, zA (kk 0) lt 20 tw, zA (kk 0) lf 20 fx])) (rest := [.int r_3, .ref (ad 2)]) [6, 7, 8] [0, 1, 2, 3, 4, 5] rfl rfl (by decide) (by decide) (by decide) hA hP hD hS (fun hP hD => va_runV (As := [.int p1, .int (2 : Int32)]) (rest := [.int r_3, .ref (ad 2)]) ⟨hx, hb, hml, hown, hts⟩ (metX5_of l D kk la lt lf _ fl tw fx p1 (2 : Int32) _ h) (cwV 2 hts (lw_V q529 q513 q514 q69 q515) rfl rfl rfl pdX5_of ⟨(Nat.le_of_ble_eq_true rfl), (Nat.le_of_ble_eq_true rfl)⟩) (zp_V hK hN hrc hP hD) rfl rfl hl.1 rfl (lv_room (Nat.le_of_ble_eq_true rfl)) dX0_plays_20 ⟨(Nat.le_of_ble_eq_true rfl), (Nat.le_of_ble_eq_true rfl)⟩) (fun r_4 u H locs h hP hD hS => ?_)
    try dsimp only at h
    have hP : va_P D vwCl [zO ad f g, zQ (kk 4) (ad 1) 4 (zKf ad), zJ (ad 2) 1, zJ (ad 3) 2, zJ (ad 4) 3, zJ (ad 5) 4, zL la lt lf fl, zA (kk 0) lt 20 tw, zA (kk 0) lf 20 fx] H := hP
    have hD : va_D A [zO ad f g, zQ (kk 4) (ad 1) 4 (zKf ad), zJ (ad 2) 1, zJ (ad 3) 2, zJ (ad 4) 3, zJ (ad 5) 4, zL la lt lf fl, zA (kk 0) lt 20 tw, zA (kk 0) lf 20 fx] := hD
    have hrc := va_recv hK hP (ci := 1) (q0 := 2) rfl rfl
    refine zc_i (wc := []) (wr := [zO ad f g, zQ (kk 4) (ad 1) 4 (zKf ad), zJ (ad 2) 1, zJ (ad 3) 2, zJ (ad 4) 3, zJ (ad 5) 4, zL la lt lf fl, zA (kk 0) lt 20 tw, zA (kk 0) lf 20 fx]) (w1 := (fun u : Unit => [])) (rest := []) [] [0, 1, 2, 3, 4, 5, 6, 7, 8] rfl rfl (by decide) (by decide) (by decide) hA hP hD hS (fun hP hD => va_runV (As := [.int r_3, .int r_4]) (rest := []) ⟨hx, hb, hml, hown, hts⟩ (metX1_plays l D kk (ad 2) _ r_3 r_4 _ h) (cwV 2 hts (lw_V q534 q535 q536 q65 q551) rfl rfl rfl pdX1_plays ⟨(Nat.le_of_ble_eq_true rfl), (Nat.le_of_ble_eq_true rfl)⟩) (zp_V hK hN hrc hP hD) rfl rfl hl.1 rfl (lv_room (Nat.le_of_ble_eq_true rfl)) dX0_plays_23 ⟨(Nat.le_of_ble_eq_true rfl), (Nat.le_of_ble_eq_true rfl)⟩) (fun r_5 u H locs h hP hD hS => ?_)
    try dsimp only at h
    have hP : va_P D vwCl [zO ad f g, zQ (kk 4) (ad 1) 4 (zKf ad), zJ (ad 2) 1, zJ (ad 3) 2, zJ (ad 4) 3, zJ (ad 5) 4, zL la lt lf fl, zA (kk 0) lt 20 tw, zA (kk 0) lf 20 fx] H := hP
    have hD : va_D A [zO ad f g, zQ (kk 4) (ad 1) 4 (zKf ad), zJ (ad 2) 1, zJ (ad 3) 2, zJ (ad 4) 3, zJ (ad 5) 4, zL la lt lf fl, zA (kk 0) lt 20 tw, zA (kk 0) lf 20 fx] := hD
    exact zr_i hx hb hr hlk rfl hP hD hS () [0, 1, 2, 3, 4, 5, 6, 7, 8] rfl (by decide) dX0_plays_26 h
  · have h := h.2.1 c_2
    rw [show va_rf (zKf ad r_1.toNatClampNeg) = .ref (ad 3) from by rw [c_2]; rfl]
    refine lv_aload_n hx hb dX0_plays_11 rfl (lv_at hl 1 rfl) ?_
    refine lv_iload_n hx hb dX0_plays_12 rfl (lv_at hl 2 rfl) ?_
    refine lv_iconst (v := (1 : Int32)) hx hb dX0_plays_13 (by decide) ?_
    have hrc := va_recv hK hP (ci := 5) (q0 := 6) rfl rfl
    refine zc_i (wc := [zL la lt lf fl, zA (kk 0) lt 20 tw, zA (kk 0) lf 20 fx]) (wr := [zO ad f g, zQ (kk 4) (ad 1) 4 (zKf ad), zJ (ad 2) 1, zJ (ad 3) 2, zJ (ad 4) 3, zJ (ad 5) 4]) (w1 := (fun u : Unit => [zL la lt lf fl, zA (kk 0) lt 20 tw, zA (kk 0) lf 20 fx])) (rest := [.ref (ad 3)]) [6, 7, 8] [0, 1, 2, 3, 4, 5] rfl rfl (by decide) (by decide) (by decide) hA hP hD hS (fun hP hD => va_runV (As := [.int p1, .int (1 : Int32)]) (rest := [.ref (ad 3)]) ⟨hx, hb, hml, hown, hts⟩ (metX5_of l D kk la lt lf _ fl tw fx p1 (1 : Int32) _ h) (cwV 2 hts (lw_V q529 q513 q514 q69 q515) rfl rfl rfl pdX5_of ⟨(Nat.le_of_ble_eq_true rfl), (Nat.le_of_ble_eq_true rfl)⟩) (zp_V hK hN hrc hP hD) rfl rfl hl.1 rfl (lv_room (Nat.le_of_ble_eq_true rfl)) dX0_plays_14 ⟨(Nat.le_of_ble_eq_true rfl), (Nat.le_of_ble_eq_true rfl)⟩) (fun r_6 u H locs h hP hD hS => ?_)
    try dsimp only at h
    have hP : va_P D vwCl [zO ad f g, zQ (kk 4) (ad 1) 4 (zKf ad), zJ (ad 2) 1, zJ (ad 3) 2, zJ (ad 4) 3, zJ (ad 5) 4, zL la lt lf fl, zA (kk 0) lt 20 tw, zA (kk 0) lf 20 fx] H := hP
    have hD : va_D A [zO ad f g, zQ (kk 4) (ad 1) 4 (zKf ad), zJ (ad 2) 1, zJ (ad 3) 2, zJ (ad 4) 3, zJ (ad 5) 4, zL la lt lf fl, zA (kk 0) lt 20 tw, zA (kk 0) lf 20 fx] := hD
    refine lv_aload_n hx hb dX0_plays_17 rfl (lv_at hl 1 rfl) ?_
    refine lv_iload_n hx hb dX0_plays_18 rfl (lv_at hl 2 rfl) ?_
    refine lv_iconst (v := (2 : Int32)) hx hb dX0_plays_19 (by decide) ?_
    have hrc := va_recv hK hP (ci := 5) (q0 := 6) rfl rfl
    refine zc_i (wc := [zL la lt lf fl, zA (kk 0) lt 20 tw, zA (kk 0) lf 20 fx]) (wr := [zO ad f g, zQ (kk 4) (ad 1) 4 (zKf ad), zJ (ad 2) 1, zJ (ad 3) 2, zJ (ad 4) 3, zJ (ad 5) 4]) (w1 := (fun u : Unit => [zL la lt lf fl, zA (kk 0) lt 20 tw, zA (kk 0) lf 20 fx])) (rest := [.int r_6, .ref (ad 3)]) [6, 7, 8] [0, 1, 2, 3, 4, 5] rfl rfl (by decide) (by decide) (by decide) hA hP hD hS (fun hP hD => va_runV (As := [.int p1, .int (2 : Int32)]) (rest := [.int r_6, .ref (ad 3)]) ⟨hx, hb, hml, hown, hts⟩ (metX5_of l D kk la lt lf _ fl tw fx p1 (2 : Int32) _ h) (cwV 2 hts (lw_V q529 q513 q514 q69 q515) rfl rfl rfl pdX5_of ⟨(Nat.le_of_ble_eq_true rfl), (Nat.le_of_ble_eq_true rfl)⟩) (zp_V hK hN hrc hP hD) rfl rfl hl.1 rfl (lv_room (Nat.le_of_ble_eq_true rfl)) dX0_plays_20 ⟨(Nat.le_of_ble_eq_true rfl), (Nat.le_of_ble_eq_true rfl)⟩) (fun r_7 u H locs h hP hD hS => ?_)
    try dsimp only at h
    have hP : va_P D vwCl [zO ad f g, zQ (kk 4) (ad 1) 4 (zKf ad), zJ (ad 2) 1, zJ (ad 3) 2, zJ (ad 4) 3, zJ (ad 5) 4, zL la lt lf fl, zA (kk 0) lt 20 tw, zA (kk 0) lf 20 fx] H := hP
    have hD : va_D A [zO ad f g, zQ (kk 4) (ad 1) 4 (zKf ad), zJ (ad 2) 1, zJ (ad 3) 2, zJ (ad 4) 3, zJ (ad 5) 4, zL la lt lf fl, zA (kk 0) lt 20 tw, zA (kk 0) lf 20 fx] := hD
    have hrc := va_recv hK hP (ci := 2) (q0 := 3) rfl rfl
    refine zc_i (wc := [zJ (ad 3) 2]) (wr := [zO ad f g, zQ (kk 4) (ad 1) 4 (zKf ad), zJ (ad 2) 1, zJ (ad 4) 3, zJ (ad 5) 4, zL la lt lf fl, zA (kk 0) lt 20 tw, zA (kk 0) lf 20 fx]) (w1 := (fun u : Unit => [zJ (ad 3) 2])) (rest := []) [3] [0, 1, 2, 4, 5, 6, 7, 8] rfl rfl (by decide) (by decide) (by decide) hA hP hD hS (fun hP hD => va_runU (As := [.int r_6, .int r_7]) (rest := []) ⟨hx, hb, hml, hown, hts⟩ (metX2_plays l D kk (ad 3) _ r_6 r_7 _ h) (va_cwO (owner := "LoseLeague$Plain") 2 hts (lw_O q534 q537 q535 q546 q547 q66 q548) rfl rfl rfl q551 pdX1_plays.2 ⟨(Nat.le_of_ble_eq_true rfl), (Nat.le_of_ble_eq_true rfl)⟩) (zp_V hK hN hrc hP hD) rfl rfl hl.1 rfl (lv_room (Nat.le_of_ble_eq_true rfl)) dX0_plays_23 ⟨(Nat.le_of_ble_eq_true rfl), (Nat.le_of_ble_eq_true rfl)⟩) (fun r_8 u H locs h hP hD hS => ?_)
    try dsimp only at h
    have hP : va_P D vwCl [zO ad f g, zQ (kk 4) (ad 1) 4 (zKf ad), zJ (ad 2) 1, zJ (ad 4) 3, zJ (ad 5) 4, zL la lt lf fl, zA (kk 0) lt 20 tw, zA (kk 0) lf 20 fx, zJ (ad 3) 2] H := hP
    have hD : va_D A [zO ad f g, zQ (kk 4) (ad 1) 4 (zKf ad), zJ (ad 2) 1, zJ (ad 4) 3, zJ (ad 5) 4, zL la lt lf fl, zA (kk 0) lt 20 tw, zA (kk 0) lf 20 fx, zJ (ad 3) 2] := hD
    exact zr_i hx hb hr hlk rfl hP hD hS () [0, 1, 2, 8, 3, 4, 5, 6, 7] rfl (by decide) dX0_plays_26 h
  · have h := h.2.2.1 c_2
    rw [show va_rf (zKf ad r_1.toNatClampNeg) = .ref (ad 4) from by rw [c_2]; rfl]
    refine lv_aload_n hx hb dX0_plays_11 rfl (lv_at hl 1 rfl) ?_
    refine lv_iload_n hx hb dX0_plays_12 rfl (lv_at hl 2 rfl) ?_
    refine lv_iconst (v := (1 : Int32)) hx hb dX0_plays_13 (by decide) ?_
    have hrc := va_recv hK hP (ci := 5) (q0 := 6) rfl rfl
    refine zc_i (wc := [zL la lt lf fl, zA (kk 0) lt 20 tw, zA (kk 0) lf 20 fx]) (wr := [zO ad f g, zQ (kk 4) (ad 1) 4 (zKf ad), zJ (ad 2) 1, zJ (ad 3) 2, zJ (ad 4) 3, zJ (ad 5) 4]) (w1 := (fun u : Unit => [zL la lt lf fl, zA (kk 0) lt 20 tw, zA (kk 0) lf 20 fx])) (rest := [.ref (ad 4)]) [6, 7, 8] [0, 1, 2, 3, 4, 5] rfl rfl (by decide) (by decide) (by decide) hA hP hD hS (fun hP hD => va_runV (As := [.int p1, .int (1 : Int32)]) (rest := [.ref (ad 4)]) ⟨hx, hb, hml, hown, hts⟩ (metX5_of l D kk la lt lf _ fl tw fx p1 (1 : Int32) _ h) (cwV 2 hts (lw_V q529 q513 q514 q69 q515) rfl rfl rfl pdX5_of ⟨(Nat.le_of_ble_eq_true rfl), (Nat.le_of_ble_eq_true rfl)⟩) (zp_V hK hN hrc hP hD) rfl rfl hl.1 rfl (lv_room (Nat.le_of_ble_eq_true rfl)) dX0_plays_14 ⟨(Nat.le_of_ble_eq_true rfl), (Nat.le_of_ble_eq_true rfl)⟩) (fun r_9 u H locs h hP hD hS => ?_)
    try dsimp only at h
    have hP : va_P D vwCl [zO ad f g, zQ (kk 4) (ad 1) 4 (zKf ad), zJ (ad 2) 1, zJ (ad 3) 2, zJ (ad 4) 3, zJ (ad 5) 4, zL la lt lf fl, zA (kk 0) lt 20 tw, zA (kk 0) lf 20 fx] H := hP
    have hD : va_D A [zO ad f g, zQ (kk 4) (ad 1) 4 (zKf ad), zJ (ad 2) 1, zJ (ad 3) 2, zJ (ad 4) 3, zJ (ad 5) 4, zL la lt lf fl, zA (kk 0) lt 20 tw, zA (kk 0) lf 20 fx] := hD
    refine lv_aload_n hx hb dX0_plays_17 rfl (lv_at hl 1 rfl) ?_
    refine lv_iload_n hx hb dX0_plays_18 rfl (lv_at hl 2 rfl) ?_
    refine lv_iconst (v := (2 : Int32)) hx hb dX0_plays_19 (by decide) ?_
    have hrc := va_recv hK hP (ci := 5) (q0 := 6) rfl rfl
    refine zc_i (wc := [zL la lt lf fl, zA (kk 0) lt 20 tw, zA (kk 0) lf 20 fx]) (wr := [zO ad f g, zQ (kk 4) (ad 1) 4 (zKf ad), zJ (ad 2) 1, zJ (ad 3) 2, zJ (ad 4) 3, zJ (ad 5) 4]) (w1 := (fun u : Unit => [zL la lt lf fl, zA (kk 0) lt 20 tw, zA (kk 0) lf 20 fx])) (rest := [.int r_9, .ref (ad 4)]) [6, 7, 8] [0, 1, 2, 3, 4, 5] rfl rfl (by decide) (by decide) (by decide) hA hP hD hS (fun hP hD => va_runV (As := [.int p1, .int (2 : Int32)]) (rest := [.int r_9, .ref (ad 4)]) ⟨hx, hb, hml, hown, hts⟩ (metX5_of l D kk la lt lf _ fl tw fx p1 (2 : Int32) _ h) (cwV 2 hts (lw_V q529 q513 q514 q69 q515) rfl rfl rfl pdX5_of ⟨(Nat.le_of_ble_eq_true rfl), (Nat.le_of_ble_eq_true rfl)⟩) (zp_V hK hN hrc hP hD) rfl rfl hl.1 rfl (lv_room (Nat.le_of_ble_eq_true rfl)) dX0_plays_20 ⟨(Nat.le_of_ble_eq_true rfl), (Nat.le_of_ble_eq_true rfl)⟩) (fun r_10 u H locs h hP hD hS => ?_)
    try dsimp only at h
    have hP : va_P D vwCl [zO ad f g, zQ (kk 4) (ad 1) 4 (zKf ad), zJ (ad 2) 1, zJ (ad 3) 2, zJ (ad 4) 3, zJ (ad 5) 4, zL la lt lf fl, zA (kk 0) lt 20 tw, zA (kk 0) lf 20 fx] H := hP
    have hD : va_D A [zO ad f g, zQ (kk 4) (ad 1) 4 (zKf ad), zJ (ad 2) 1, zJ (ad 3) 2, zJ (ad 4) 3, zJ (ad 5) 4, zL la lt lf fl, zA (kk 0) lt 20 tw, zA (kk 0) lf 20 fx] := hD
    have hrc := va_recv hK hP (ci := 3) (q0 := 4) rfl rfl
    refine zc_i (wc := [zJ (ad 4) 3]) (wr := [zO ad f g, zQ (kk 4) (ad 1) 4 (zKf ad), zJ (ad 2) 1, zJ (ad 3) 2, zJ (ad 5) 4, zL la lt lf fl, zA (kk 0) lt 20 tw, zA (kk 0) lf 20 fx]) (w1 := (fun u : Unit => [zJ (ad 4) 3])) (rest := []) [4] [0, 1, 2, 3, 5, 6, 7, 8] rfl rfl (by decide) (by decide) (by decide) hA hP hD hS (fun hP hD => va_runU (As := [.int r_9, .int r_10]) (rest := []) ⟨hx, hb, hml, hown, hts⟩ (metX3_plays_3 l D kk (ad 4) _ r_9 r_10 _ h) (va_cwO (owner := "LoseLeague$Plain") 2 hts (lw_O q534 q537 q535 q550 q542 q67 q543) rfl rfl rfl q551 pdX1_plays.2 ⟨(Nat.le_of_ble_eq_true rfl), (Nat.le_of_ble_eq_true rfl)⟩) (zp_V hK hN hrc hP hD) rfl rfl hl.1 rfl (lv_room (Nat.le_of_ble_eq_true rfl)) dX0_plays_23 ⟨(Nat.le_of_ble_eq_true rfl), (Nat.le_of_ble_eq_true rfl)⟩) (fun r_11 u H locs h hP hD hS => ?_)
    try dsimp only at h
    have hP : va_P D vwCl [zO ad f g, zQ (kk 4) (ad 1) 4 (zKf ad), zJ (ad 2) 1, zJ (ad 3) 2, zJ (ad 5) 4, zL la lt lf fl, zA (kk 0) lt 20 tw, zA (kk 0) lf 20 fx, zJ (ad 4) 3] H := hP
    have hD : va_D A [zO ad f g, zQ (kk 4) (ad 1) 4 (zKf ad), zJ (ad 2) 1, zJ (ad 3) 2, zJ (ad 5) 4, zL la lt lf fl, zA (kk 0) lt 20 tw, zA (kk 0) lf 20 fx, zJ (ad 4) 3] := hD
    exact zr_i hx hb hr hlk rfl hP hD hS () [0, 1, 2, 3, 8, 4, 5, 6, 7] rfl (by decide) dX0_plays_26 h
  · have h := h.2.2.2 c_2
    rw [show va_rf (zKf ad r_1.toNatClampNeg) = .ref (ad 5) from by rw [c_2]; rfl]
    refine lv_aload_n hx hb dX0_plays_11 rfl (lv_at hl 1 rfl) ?_
    refine lv_iload_n hx hb dX0_plays_12 rfl (lv_at hl 2 rfl) ?_
    refine lv_iconst (v := (1 : Int32)) hx hb dX0_plays_13 (by decide) ?_
    have hrc := va_recv hK hP (ci := 5) (q0 := 6) rfl rfl
    refine zc_i (wc := [zL la lt lf fl, zA (kk 0) lt 20 tw, zA (kk 0) lf 20 fx]) (wr := [zO ad f g, zQ (kk 4) (ad 1) 4 (zKf ad), zJ (ad 2) 1, zJ (ad 3) 2, zJ (ad 4) 3, zJ (ad 5) 4]) (w1 := (fun u : Unit => [zL la lt lf fl, zA (kk 0) lt 20 tw, zA (kk 0) lf 20 fx])) (rest := [.ref (ad 5)]) [6, 7, 8] [0, 1, 2, 3, 4, 5] rfl rfl (by decide) (by decide) (by decide) hA hP hD hS (fun hP hD => va_runV (As := [.int p1, .int (1 : Int32)]) (rest := [.ref (ad 5)]) ⟨hx, hb, hml, hown, hts⟩ (metX5_of l D kk la lt lf _ fl tw fx p1 (1 : Int32) _ h) (cwV 2 hts (lw_V q529 q513 q514 q69 q515) rfl rfl rfl pdX5_of ⟨(Nat.le_of_ble_eq_true rfl), (Nat.le_of_ble_eq_true rfl)⟩) (zp_V hK hN hrc hP hD) rfl rfl hl.1 rfl (lv_room (Nat.le_of_ble_eq_true rfl)) dX0_plays_14 ⟨(Nat.le_of_ble_eq_true rfl), (Nat.le_of_ble_eq_true rfl)⟩) (fun r_12 u H locs h hP hD hS => ?_)
    try dsimp only at h
    have hP : va_P D vwCl [zO ad f g, zQ (kk 4) (ad 1) 4 (zKf ad), zJ (ad 2) 1, zJ (ad 3) 2, zJ (ad 4) 3, zJ (ad 5) 4, zL la lt lf fl, zA (kk 0) lt 20 tw, zA (kk 0) lf 20 fx] H := hP
    have hD : va_D A [zO ad f g, zQ (kk 4) (ad 1) 4 (zKf ad), zJ (ad 2) 1, zJ (ad 3) 2, zJ (ad 4) 3, zJ (ad 5) 4, zL la lt lf fl, zA (kk 0) lt 20 tw, zA (kk 0) lf 20 fx] := hD
    refine lv_aload_n hx hb dX0_plays_17 rfl (lv_at hl 1 rfl) ?_
    refine lv_iload_n hx hb dX0_plays_18 rfl (lv_at hl 2 rfl) ?_
    refine lv_iconst (v := (2 : Int32)) hx hb dX0_plays_19 (by decide) ?_
    have hrc := va_recv hK hP (ci := 5) (q0 := 6) rfl rfl
    refine zc_i (wc := [zL la lt lf fl, zA (kk 0) lt 20 tw, zA (kk 0) lf 20 fx]) (wr := [zO ad f g, zQ (kk 4) (ad 1) 4 (zKf ad), zJ (ad 2) 1, zJ (ad 3) 2, zJ (ad 4) 3, zJ (ad 5) 4]) (w1 := (fun u : Unit => [zL la lt lf fl, zA (kk 0) lt 20 tw, zA (kk 0) lf 20 fx])) (rest := [.int r_12, .ref (ad 5)]) [6, 7, 8] [0, 1, 2, 3, 4, 5] rfl rfl (by decide) (by decide) (by decide) hA hP hD hS (fun hP hD => va_runV (As := [.int p1, .int (2 : Int32)]) (rest := [.int r_12, .ref (ad 5)]) ⟨hx, hb, hml, hown, hts⟩ (metX5_of l D kk la lt lf _ fl tw fx p1 (2 : Int32) _ h) (cwV 2 hts (lw_V q529 q513 q514 q69 q515) rfl rfl rfl pdX5_of ⟨(Nat.le_of_ble_eq_true rfl), (Nat.le_of_ble_eq_true rfl)⟩) (zp_V hK hN hrc hP hD) rfl rfl hl.1 rfl (lv_room (Nat.le_of_ble_eq_true rfl)) dX0_plays_20 ⟨(Nat.le_of_ble_eq_true rfl), (Nat.le_of_ble_eq_true rfl)⟩) (fun r_13 u H locs h hP hD hS => ?_)
    try dsimp only at h
    have hP : va_P D vwCl [zO ad f g, zQ (kk 4) (ad 1) 4 (zKf ad), zJ (ad 2) 1, zJ (ad 3) 2, zJ (ad 4) 3, zJ (ad 5) 4, zL la lt lf fl, zA (kk 0) lt 20 tw, zA (kk 0) lf 20 fx] H := hP
    have hD : va_D A [zO ad f g, zQ (kk 4) (ad 1) 4 (zKf ad), zJ (ad 2) 1, zJ (ad 3) 2, zJ (ad 4) 3, zJ (ad 5) 4, zL la lt lf fl, zA (kk 0) lt 20 tw, zA (kk 0) lf 20 fx] := hD
    have hrc := va_recv hK hP (ci := 4) (q0 := 5) rfl rfl
    refine zc_i (wc := [zJ (ad 5) 4]) (wr := [zO ad f g, zQ (kk 4) (ad 1) 4 (zKf ad), zJ (ad 2) 1, zJ (ad 3) 2, zJ (ad 4) 3, zL la lt lf fl, zA (kk 0) lt 20 tw, zA (kk 0) lf 20 fx]) (w1 := (fun u : Unit => [zJ (ad 5) 4])) (rest := []) [5] [0, 1, 2, 3, 4, 6, 7, 8] rfl rfl (by decide) (by decide) (by decide) hA hP hD hS (fun hP hD => va_runU (As := [.int r_12, .int r_13]) (rest := []) ⟨hx, hb, hml, hown, hts⟩ (metX4_plays l D kk (ad 5) _ r_12 r_13 _ h) (va_cwO (owner := "LoseLeague$Plain") 2 hts (lw_O q534 q537 q535 q538 q539 q68 q540) rfl rfl rfl q551 pdX1_plays.2 ⟨(Nat.le_of_ble_eq_true rfl), (Nat.le_of_ble_eq_true rfl)⟩) (zp_V hK hN hrc hP hD) rfl rfl hl.1 rfl (lv_room (Nat.le_of_ble_eq_true rfl)) dX0_plays_23 ⟨(Nat.le_of_ble_eq_true rfl), (Nat.le_of_ble_eq_true rfl)⟩) (fun r_14 u H locs h hP hD hS => ?_)
    try dsimp only at h
    have hP : va_P D vwCl [zO ad f g, zQ (kk 4) (ad 1) 4 (zKf ad), zJ (ad 2) 1, zJ (ad 3) 2, zJ (ad 4) 3, zL la lt lf fl, zA (kk 0) lt 20 tw, zA (kk 0) lf 20 fx, zJ (ad 5) 4] H := hP
    have hD : va_D A [zO ad f g, zQ (kk 4) (ad 1) 4 (zKf ad), zJ (ad 2) 1, zJ (ad 3) 2, zJ (ad 4) 3, zL la lt lf fl, zA (kk 0) lt 20 tw, zA (kk 0) lf 20 fx, zJ (ad 5) 4] := hD
    exact zr_i hx hb hr hlk rfl hP hD hS () [0, 1, 2, 3, 4, 8, 5, 6, 7] rfl (by decide) dX0_plays_26 h
def wpX0_loserOf (tw : Nat → Int32) (p1 : Int32) (p2 : Int32) (Q : Int32 → Prop) : Prop :=
  (wpX0_plays tw p1 (fun r_1 => (wpX0_plays tw p2 (fun r_2 => (((r_1 - r_2) = 0 → Q (-4 : Int32)) ∧ (¬ (r_1 - r_2) = 0 → ((0 ≤ (r_1 - r_2) → Q p2) ∧ (¬ 0 ≤ (r_1 - r_2) → Q p1))))))))
set_option maxHeartbeats 4000000 in
theorem metX0_loserOf (l : Launch) (D : va_G) (kk : Nat → ClassId) (ad : Nat → Nat) (la : Nat) (lt : Nat) (lf : Nat) (sz : Nat) (f : Nat → Int32) (g : Nat → Int64) (fl : Nat → Int32) (tw : Nat → Int32) (fx : Nat → Int32) (p1 : Int32) (p2 : Int32) (Q : Int32 → Prop) (h : wpX0_loserOf tw p1 p2 Q) : Met l yX0_loserOf (ws_ yX0_loserOf cX0_loserOf 5 (some .int)) { frames := 4, cells := 0, slots := 0, locals := 89 } (va_Pc ([.ref (ad 0), .ref la, .int p1, .int p2] : List Value) (zPc D kk [zO ad f g, zQ (kk 4) (ad 1) 4 (zKf ad), zJ (ad 2) 1, zJ (ad 3) 2, zJ (ad 4) 3, zJ (ad 5) 4, zL la lt lf fl, zA (kk 0) lt 20 tw, zA (kk 0) lf 20 fx] sz)) (va_Qi (fun (r : Int32) (u : Unit) => Q r ) (zB D (va_A [zO ad f g, zQ (kk 4) (ad 1) 4 (zKf ad), zJ (ad 2) 1, zJ (ad 3) 2, zJ (ad 4) 3, zJ (ad 5) 4, zL la lt lf fl, zA (kk 0) lt 20 tw, zA (kk 0) lf 20 fx] sz) (fun u : Unit => [zO ad f g, zQ (kk 4) (ad 1) 4 (zKf ad), zJ (ad 2) 1, zJ (ad 3) 2, zJ (ad 4) 3, zJ (ad 5) 4, zL la lt lf fl, zA (kk 0) lt 20 tw, zA (kk 0) lf 20 fx])) (va_A [zO ad f g, zQ (kk 4) (ad 1) 4 (zKf ad), zJ (ad 2) 1, zJ (ad 3) 2, zJ (ad 4) 3, zJ (ad 5) 4, zL la lt lf fl, zA (kk 0) lt 20 tw, zA (kk 0) lf 20 fx] sz)) 0 0 (va_A [zO ad f g, zQ (kk 4) (ad 1) 4 (zKf ad), zJ (ad 2) 1, zJ (ad 3) 2, zJ (ad 4) 3, zJ (ad 5) 4, zL la lt lf fl, zA (kk 0) lt 20 tw, zA (kk 0) lf 20 fx] sz) := by
  refine zMet (Qc := fun A => va_Qi (fun (r : Int32) (u : Unit) => Q r ) (zB D A (fun u : Unit => [zO ad f g, zQ (kk 4) (ad 1) 4 (zKf ad), zJ (ad 2) 1, zJ (ad 3) 2, zJ (ad 4) 3, zJ (ad 5) 4, zL la lt lf fl, zA (kk 0) lt 20 tw, zA (kk 0) lf 20 fx])) A) (by decide) (Nat.le_of_ble_eq_true rfl) ?_
  intro p e s m below meth c A X hP hD hS ls hl
  obtain ⟨hx, hb, hr, hml, hown, hts, hlk, hnm, hK, hN, hA⟩ := X
  have hown : s.vm.findClass "LoseLeague" = some m.cls := hown
  have hl : lv_has ls 5 [(0, .ref (ad 0)), (1, .ref la), (2, .int p1), (3, .int p2)] := hl
  unfold wpX0_loserOf at h
  refine lv_aload_n hx hb dX0_loserOf_0 rfl (lv_at hl 0 rfl) ?_
  refine lv_aload_n hx hb dX0_loserOf_1 rfl (lv_at hl 1 rfl) ?_
  refine lv_iload_n hx hb dX0_loserOf_2 rfl (lv_at hl 2 rfl) ?_
  have hrc := va_recv hK hP (ci := 0) (q0 := 0) rfl rfl
  refine zc_i (wc := [zO ad f g, zQ (kk 4) (ad 1) 4 (zKf ad), zJ (ad 2) 1, zJ (ad 3) 2, zJ (ad 4) 3, zJ (ad 5) 4, zL la lt lf fl, zA (kk 0) lt 20 tw, zA (kk 0) lf 20 fx]) (wr := []) (w1 := (fun u : Unit => [zO ad f g, zQ (kk 4) (ad 1) 4 (zKf ad), zJ (ad 2) 1, zJ (ad 3) 2, zJ (ad 4) 3, zJ (ad 5) 4, zL la lt lf fl, zA (kk 0) lt 20 tw, zA (kk 0) lf 20 fx])) (rest := []) [0, 1, 2, 3, 4, 5, 6, 7, 8] [] rfl rfl (by decide) (by decide) (by decide) hA hP hD hS (fun hP hD => va_runV (As := [.ref la, .int p1]) (rest := []) ⟨hx, hb, hml, hown, hts⟩ (metX0_plays l D kk ad la lt lf _ f g fl tw fx p1 _ h) (cwV 2 hts (lw_V q530 q532 qs11 q64 q533) rfl rfl rfl pdX0_plays ⟨(Nat.le_of_ble_eq_true rfl), (Nat.le_of_ble_eq_true rfl)⟩) (zp_V hK hN hrc hP hD) rfl rfl hl.1 rfl (lv_room (Nat.le_of_ble_eq_true rfl)) dX0_loserOf_3 ⟨(Nat.le_of_ble_eq_true rfl), (Nat.le_of_ble_eq_true rfl)⟩) (fun r_1 u H locs h hP hD hS => ?_)
  try dsimp only at h
  have hP : va_P D vwCl [zO ad f g, zQ (kk 4) (ad 1) 4 (zKf ad), zJ (ad 2) 1, zJ (ad 3) 2, zJ (ad 4) 3, zJ (ad 5) 4, zL la lt lf fl, zA (kk 0) lt 20 tw, zA (kk 0) lf 20 fx] H := hP
  have hD : va_D A [zO ad f g, zQ (kk 4) (ad 1) 4 (zKf ad), zJ (ad 2) 1, zJ (ad 3) 2, zJ (ad 4) 3, zJ (ad 5) 4, zL la lt lf fl, zA (kk 0) lt 20 tw, zA (kk 0) lf 20 fx] := hD
  refine lv_aload_n hx hb dX0_loserOf_6 rfl (lv_at hl 0 rfl) ?_
  refine lv_aload_n hx hb dX0_loserOf_7 rfl (lv_at hl 1 rfl) ?_
  refine lv_iload_n hx hb dX0_loserOf_8 rfl (lv_at hl 3 rfl) ?_
  have hrc := va_recv hK hP (ci := 0) (q0 := 0) rfl rfl
  refine zc_i (wc := [zO ad f g, zQ (kk 4) (ad 1) 4 (zKf ad), zJ (ad 2) 1, zJ (ad 3) 2, zJ (ad 4) 3, zJ (ad 5) 4, zL la lt lf fl, zA (kk 0) lt 20 tw, zA (kk 0) lf 20 fx]) (wr := []) (w1 := (fun u : Unit => [zO ad f g, zQ (kk 4) (ad 1) 4 (zKf ad), zJ (ad 2) 1, zJ (ad 3) 2, zJ (ad 4) 3, zJ (ad 5) 4, zL la lt lf fl, zA (kk 0) lt 20 tw, zA (kk 0) lf 20 fx])) (rest := [.int r_1]) [0, 1, 2, 3, 4, 5, 6, 7, 8] [] rfl rfl (by decide) (by decide) (by decide) hA hP hD hS (fun hP hD => va_runV (As := [.ref la, .int p2]) (rest := [.int r_1]) ⟨hx, hb, hml, hown, hts⟩ (metX0_plays l D kk ad la lt lf _ f g fl tw fx p2 _ h) (cwV 2 hts (lw_V q530 q532 qs11 q64 q533) rfl rfl rfl pdX0_plays ⟨(Nat.le_of_ble_eq_true rfl), (Nat.le_of_ble_eq_true rfl)⟩) (zp_V hK hN hrc hP hD) rfl rfl hl.1 rfl (lv_room (Nat.le_of_ble_eq_true rfl)) dX0_loserOf_9 ⟨(Nat.le_of_ble_eq_true rfl), (Nat.le_of_ble_eq_true rfl)⟩) (fun r_2 u H locs h hP hD hS => ?_)
  try dsimp only at h
  have hP : va_P D vwCl [zO ad f g, zQ (kk 4) (ad 1) 4 (zKf ad), zJ (ad 2) 1, zJ (ad 3) 2, zJ (ad 4) 3, zJ (ad 5) 4, zL la lt lf fl, zA (kk 0) lt 20 tw, zA (kk 0) lf 20 fx] H := hP
  have hD : va_D A [zO ad f g, zQ (kk 4) (ad 1) 4 (zKf ad), zJ (ad 2) 1, zJ (ad 3) 2, zJ (ad 4) 3, zJ (ad 5) 4, zL la lt lf fl, zA (kk 0) lt 20 tw, zA (kk 0) lf 20 fx] := hD
  refine lv_isub hx hb dX0_loserOf_12 ?_
  refine lv_istore (lv' := [(4, .int (r_1 - r_2)), (0, .ref (ad 0)), (1, .ref la), (2, .int p1), (3, .int p2)]) hx hb dX0_loserOf_13 hl (by decide) rfl (fun ls hl => ?_)
  refine lv_iload hx hb dX0_loserOf_15 (lv_at hl 0 rfl) ?_
  refine lv_if_ne (tgt := 25) hx hb dX0_loserOf_17 (by decide) (fun c_3 => ?_) (fun c_3 => ?_)
  · have h := h.2 c_3
    refine lv_iload hx hb dX0_loserOf_25 (lv_at hl 0 rfl) ?_
    refine lv_if_ge (tgt := 34) hx hb dX0_loserOf_27 (by decide) (fun c_4 => ?_) (fun c_4 => ?_)
    · have h := h.1 c_4
      refine lv_iload_n hx hb dX0_loserOf_34 rfl (lv_at hl 4 rfl) ?_
      exact zr_i hx hb hr hlk rfl hP hD hS () [0, 1, 2, 3, 4, 5, 6, 7, 8] rfl (by decide) dX0_loserOf_35 h
    · have h := h.2 c_4
      refine lv_iload_n hx hb dX0_loserOf_30 rfl (lv_at hl 3 rfl) ?_
      refine lv_goto (tgt := 35) hx hb dX0_loserOf_31 (by decide) ?_
      exact zr_i hx hb hr hlk rfl hP hD hS () [0, 1, 2, 3, 4, 5, 6, 7, 8] rfl (by decide) dX0_loserOf_35 h
  · have h := h.1 c_3
    refine lv_bipush (v := (-4 : Int32)) hx hb dX0_loserOf_20 (by decide) ?_
    refine lv_goto (tgt := 35) hx hb dX0_loserOf_22 (by decide) ?_
    exact zr_i hx hb hr hlk rfl hP hD hS () [0, 1, 2, 3, 4, 5, 6, 7, 8] rfl (by decide) dX0_loserOf_35 h
def wpX0_startsCounting (f : Nat → Int32) (Q : (Nat → Int32) → Prop) : Prop :=
  Q (upd (upd (upd (upd f 7 (0 : Int32)) 8 (0 : Int32)) 9 (0 : Int32)) 10 (-4 : Int32))
set_option maxHeartbeats 4000000 in
theorem metX0_startsCounting (l : Launch) (D : va_G) (kk : Nat → ClassId) (ad : Nat → Nat) (sz : Nat) (f : Nat → Int32) (g : Nat → Int64) (Q : (Nat → Int32) → Prop) (h : wpX0_startsCounting f Q) : Met l yX0_startsCounting (ws_ yX0_startsCounting cX0_startsCounting 1 none) { frames := 0, cells := 0, slots := 0, locals := 0 } (va_Pc ([.ref (ad 0)] : List Value) (zPc D kk [zO ad f g] sz)) (va_Qv (fun (u : (Nat → Int32)) => Q u) (zB D (va_A [zO ad f g] sz) (fun u : (Nat → Int32) => [zO ad u g])) (va_A [zO ad f g] sz)) 0 0 (va_A [zO ad f g] sz) := by
  refine zMet (Qc := fun A => va_Qv (fun (u : (Nat → Int32)) => Q u) (zB D A (fun u : (Nat → Int32) => [zO ad u g])) A) (by decide) (Nat.le_of_ble_eq_true rfl) ?_
  intro p e s m below meth c A X hP hD hS ls hl
  obtain ⟨hx, hb, hr, hml, hown, hts, hlk, hnm, hK, hN, hA⟩ := X
  have hown : s.vm.findClass "LoseLeague" = some m.cls := hown
  have hl : lv_has ls 1 [(0, .ref (ad 0))] := hl
  unfold wpX0_startsCounting at h
  refine lv_aload_n hx hb dX0_startsCounting_0 rfl (lv_at hl 0 rfl) ?_
  refine lv_iconst (v := (0 : Int32)) hx hb dX0_startsCounting_1 (by decide) ?_
  refine va_put (D := D) (ci := 0) (v := .int (0 : Int32)) (C := RX0) (T := TX0) (N := 25) hx hb hts in_X0 tyX0 tyX0_ok nmX0 hown hK hP hD hS 0 rfl rfl 7 (Nat.le_of_ble_eq_true rfl) (hts _ q179) (fun _ h9 => h9) rfl (tyX0_ok 7 (Nat.le_of_ble_eq_true rfl)) rfl rfl (Nat.le_of_ble_eq_true rfl) dX0_startsCounting_2 (fun H locs hP hD hS => ?_)
  have hP : va_P D vwCl [zO ad (upd f 7 (0 : Int32)) g] H := hP
  have hD : va_D A [zO ad (upd f 7 (0 : Int32)) g] := hD
  refine lv_aload_n hx hb dX0_startsCounting_5 rfl (lv_at hl 0 rfl) ?_
  refine lv_iconst (v := (0 : Int32)) hx hb dX0_startsCounting_6 (by decide) ?_
  refine va_put (D := D) (ci := 0) (v := .int (0 : Int32)) (C := RX0) (T := TX0) (N := 25) hx hb hts in_X0 tyX0 tyX0_ok nmX0 hown hK hP hD hS 0 rfl rfl 8 (Nat.le_of_ble_eq_true rfl) (hts _ q180) (fun _ h9 => h9) rfl (tyX0_ok 8 (Nat.le_of_ble_eq_true rfl)) rfl rfl (Nat.le_of_ble_eq_true rfl) dX0_startsCounting_7 (fun H locs hP hD hS => ?_)
  have hP : va_P D vwCl [zO ad (upd (upd f 7 (0 : Int32)) 8 (0 : Int32)) g] H := hP
  have hD : va_D A [zO ad (upd (upd f 7 (0 : Int32)) 8 (0 : Int32)) g] := hD
  refine lv_aload_n hx hb dX0_startsCounting_10 rfl (lv_at hl 0 rfl) ?_
  refine lv_iconst (v := (0 : Int32)) hx hb dX0_startsCounting_11 (by decide) ?_
  refine va_put (D := D) (ci := 0) (v := .int (0 : Int32)) (C := RX0) (T := TX0) (N := 25) hx hb hts in_X0 tyX0 tyX0_ok nmX0 hown hK hP hD hS 0 rfl rfl 9 (Nat.le_of_ble_eq_true rfl) (hts _ q181) (fun _ h9 => h9) rfl (tyX0_ok 9 (Nat.le_of_ble_eq_true rfl)) rfl rfl (Nat.le_of_ble_eq_true rfl) dX0_startsCounting_12 (fun H locs hP hD hS => ?_)
  have hP : va_P D vwCl [zO ad (upd (upd (upd f 7 (0 : Int32)) 8 (0 : Int32)) 9 (0 : Int32)) g] H := hP
  have hD : va_D A [zO ad (upd (upd (upd f 7 (0 : Int32)) 8 (0 : Int32)) 9 (0 : Int32)) g] := hD
  refine lv_aload_n hx hb dX0_startsCounting_15 rfl (lv_at hl 0 rfl) ?_
  refine lv_bipush (v := (-4 : Int32)) hx hb dX0_startsCounting_16 (by decide) ?_
  refine va_put (D := D) (ci := 0) (v := .int (-4 : Int32)) (C := RX0) (T := TX0) (N := 25) hx hb hts in_X0 tyX0 tyX0_ok nmX0 hown hK hP hD hS 0 rfl rfl 10 (Nat.le_of_ble_eq_true rfl) (hts _ q182) (fun _ h9 => h9) rfl (tyX0_ok 10 (Nat.le_of_ble_eq_true rfl)) rfl rfl (Nat.le_of_ble_eq_true rfl) dX0_startsCounting_18 (fun H locs hP hD hS => ?_)
  have hP : va_P D vwCl [zO ad (upd (upd (upd (upd f 7 (0 : Int32)) 8 (0 : Int32)) 9 (0 : Int32)) 10 (-4 : Int32)) g] H := hP
  have hD : va_D A [zO ad (upd (upd (upd (upd f 7 (0 : Int32)) 8 (0 : Int32)) 9 (0 : Int32)) 10 (-4 : Int32)) g] := hD
  exact zr_v hx hb hr hlk hP hD hS ((upd (upd (upd (upd f 7 (0 : Int32)) 8 (0 : Int32)) 9 (0 : Int32)) 10 (-4 : Int32))) [0] rfl (by decide) dX0_startsCounting_21 h
def wpX0_isPlayed_102 (p1 : Int32) (p2 : Int32) (Q : (Nat → Int32) → (Nat → Int32) → Prop) (f : Nat → Int32) (tw : Nat → Int32) (s1 : Int32) : Prop :=
  (wpX5_grows tw s1 (1 : Int32) (-1 : Int32) (20 : Int32) (fun tw_12 => Q f tw_12))
def wpX0_isPlayed (f : Nat → Int32) (tw : Nat → Int32) (p1 : Int32) (p2 : Int32) (Q : (Nat → Int32) → (Nat → Int32) → Prop) : Prop :=
  (wpX0_loserOf tw p1 p2 (fun r_1 => ((r_1 = (-4 : Int32) → Q (upd (upd f 10 r_1) 8 ((f 8) + (1 : Int32))) tw) ∧ (¬ r_1 = (-4 : Int32) → (∀ v_3 : Int32, v_3 = ((f 9) ||| ((1 : Int32) <<< (r_1 &&& 31))) → (wpX5_grows tw r_1 (2 : Int32) (1 : Int32) (99 : Int32) (fun tw_5 => (wpX5_of tw_5 r_1 (0 : Int32) (fun r_6 => (vp_in r_6 4 ∧ ((r_6 = 0 → (wpX1_trains  (fun r_8 => (wpX5_grows tw_5 r_1 (1 : Int32) r_8 (20 : Int32) (fun tw_10 => ((r_1 = p1 → wpX0_isPlayed_102 p1 p2 Q  (upd (upd (upd f 10 r_1) 7 ((f 7) + (1 : Int32))) 9 v_3) tw_10 p2) ∧ (¬ r_1 = p1 → wpX0_isPlayed_102 p1 p2 Q  (upd (upd (upd f 10 r_1) 7 ((f 7) + (1 : Int32))) 9 v_3) tw_10 p1))))))) ∧ (r_6 = 1 → (wpX2_trains  (fun r_14 => (wpX5_grows tw_5 r_1 (1 : Int32) r_14 (20 : Int32) (fun tw_16 => ((r_1 = p1 → wpX0_isPlayed_102 p1 p2 Q  (upd (upd (upd f 10 r_1) 7 ((f 7) + (1 : Int32))) 9 v_3) tw_16 p2) ∧ (¬ r_1 = p1 → wpX0_isPlayed_102 p1 p2 Q  (upd (upd (upd f 10 r_1) 7 ((f 7) + (1 : Int32))) 9 v_3) tw_16 p1))))))) ∧ (r_6 = 2 → (wpX1_trains  (fun r_20 => (wpX5_grows tw_5 r_1 (1 : Int32) r_20 (20 : Int32) (fun tw_22 => ((r_1 = p1 → wpX0_isPlayed_102 p1 p2 Q  (upd (upd (upd f 10 r_1) 7 ((f 7) + (1 : Int32))) 9 v_3) tw_22 p2) ∧ (¬ r_1 = p1 → wpX0_isPlayed_102 p1 p2 Q  (upd (upd (upd f 10 r_1) 7 ((f 7) + (1 : Int32))) 9 v_3) tw_22 p1))))))) ∧ (r_6 = 3 → (wpX4_trains  (fun r_26 => (wpX5_grows tw_5 r_1 (1 : Int32) r_26 (20 : Int32) (fun tw_28 => ((r_1 = p1 → wpX0_isPlayed_102 p1 p2 Q  (upd (upd (upd f 10 r_1) 7 ((f 7) + (1 : Int32))) 9 v_3) tw_28 p2) ∧ (¬ r_1 = p1 → wpX0_isPlayed_102 p1 p2 Q  (upd (upd (upd f 10 r_1) 7 ((f 7) + (1 : Int32))) 9 v_3) tw_28 p1))))))))))))))))))
set_option maxHeartbeats 4000000 in
theorem metX0_isPlayed (l : Launch) (D : va_G) (kk : Nat → ClassId) (ad : Nat → Nat) (la : Nat) (lt : Nat) (lf : Nat) (sz : Nat) (f : Nat → Int32) (g : Nat → Int64) (fl : Nat → Int32) (tw : Nat → Int32) (fx : Nat → Int32) (p1 : Int32) (p2 : Int32) (Q : (Nat → Int32) → (Nat → Int32) → Prop) (h : wpX0_isPlayed f tw p1 p2 Q) : Met l yX0_isPlayed (ws_ yX0_isPlayed cX0_isPlayed 5 none) { frames := 5, cells := 0, slots := 0, locals := 113 } (va_Pc ([.ref (ad 0), .ref la, .int p1, .int p2] : List Value) (zPc D kk [zO ad f g, zQ (kk 4) (ad 1) 4 (zKf ad), zJ (ad 2) 1, zJ (ad 3) 2, zJ (ad 4) 3, zJ (ad 5) 4, zL la lt lf fl, zA (kk 0) lt 20 tw, zA (kk 0) lf 20 fx] sz)) (va_Qv (fun (u : (Nat → Int32) × (Nat → Int32)) => Q u.1 u.2) (zB D (va_A [zO ad f g, zQ (kk 4) (ad 1) 4 (zKf ad), zJ (ad 2) 1, zJ (ad 3) 2, zJ (ad 4) 3, zJ (ad 5) 4, zL la lt lf fl, zA (kk 0) lt 20 tw, zA (kk 0) lf 20 fx] sz) (fun u : (Nat → Int32) × (Nat → Int32) => [zO ad u.1 g, zQ (kk 4) (ad 1) 4 (zKf ad), zJ (ad 2) 1, zJ (ad 3) 2, zJ (ad 4) 3, zJ (ad 5) 4, zL la lt lf fl, zA (kk 0) lt 20 u.2, zA (kk 0) lf 20 fx])) (va_A [zO ad f g, zQ (kk 4) (ad 1) 4 (zKf ad), zJ (ad 2) 1, zJ (ad 3) 2, zJ (ad 4) 3, zJ (ad 5) 4, zL la lt lf fl, zA (kk 0) lt 20 tw, zA (kk 0) lf 20 fx] sz)) 0 0 (va_A [zO ad f g, zQ (kk 4) (ad 1) 4 (zKf ad), zJ (ad 2) 1, zJ (ad 3) 2, zJ (ad 4) 3, zJ (ad 5) 4, zL la lt lf fl, zA (kk 0) lt 20 tw, zA (kk 0) lf 20 fx] sz) := by
  refine zMet (Qc := fun A => va_Qv (fun (u : (Nat → Int32) × (Nat → Int32)) => Q u.1 u.2) (zB D A (fun u : (Nat → Int32) × (Nat → Int32) => [zO ad u.1 g, zQ (kk 4) (ad 1) 4 (zKf ad), zJ (ad 2) 1, zJ (ad 3) 2, zJ (ad 4) 3, zJ (ad 5) 4, zL la lt lf fl, zA (kk 0) lt 20 u.2, zA (kk 0) lf 20 fx])) A) (by decide) (Nat.le_of_ble_eq_true rfl) ?_
  intro p e s m below meth c A X hP hD hS ls hl
  obtain ⟨hx, hb, hr, hml, hown, hts, hlk, hnm, hK, hN, hA⟩ := X
  have hown : s.vm.findClass "LoseLeague" = some m.cls := hown
  have hl : lv_has ls 5 [(0, .ref (ad 0)), (1, .ref la), (2, .int p1), (3, .int p2)] := hl
  unfold wpX0_isPlayed at h
  refine lv_aload_n hx hb dX0_isPlayed_0 rfl (lv_at hl 0 rfl) ?_
  refine lv_aload_n hx hb dX0_isPlayed_1 rfl (lv_at hl 1 rfl) ?_
  refine lv_iload_n hx hb dX0_isPlayed_2 rfl (lv_at hl 2 rfl) ?_
  refine lv_iload_n hx hb dX0_isPlayed_3 rfl (lv_at hl 3 rfl) ?_
  have hrc := va_recv hK hP (ci := 0) (q0 := 0) rfl rfl
  refine zc_i (wc := [zO ad f g, zQ (kk 4) (ad 1) 4 (zKf ad), zJ (ad 2) 1, zJ (ad 3) 2, zJ (ad 4) 3, zJ (ad 5) 4, zL la lt lf fl, zA (kk 0) lt 20 tw, zA (kk 0) lf 20 fx]) (wr := []) (w1 := (fun u : Unit => [zO ad f g, zQ (kk 4) (ad 1) 4 (zKf ad), zJ (ad 2) 1, zJ (ad 3) 2, zJ (ad 4) 3, zJ (ad 5) 4, zL la lt lf fl, zA (kk 0) lt 20 tw, zA (kk 0) lf 20 fx])) (rest := []) [0, 1, 2, 3, 4, 5, 6, 7, 8] [] rfl rfl (by decide) (by decide) (by decide) hA hP hD hS (fun hP hD => va_runV (As := [.ref la, .int p1, .int p2]) (rest := []) ⟨hx, hb, hml, hown, hts⟩ (metX0_loserOf l D kk ad la lt lf _ f g fl tw fx p1 p2 _ h) (cwV 3 hts (lw_V q567 q569 qs13 q64 q570) rfl rfl rfl pdX0_loserOf ⟨(Nat.le_of_ble_eq_true rfl), (Nat.le_of_ble_eq_true rfl)⟩) (zp_V hK hN hrc hP hD) rfl rfl hl.1 rfl (lv_room (Nat.le_of_ble_eq_true rfl)) dX0_isPlayed_4 ⟨(Nat.le_of_ble_eq_true rfl), (Nat.le_of_ble_eq_true rfl)⟩) (fun r_1 u H locs h hP hD hS => ?_)
  try dsimp only at h
  have hP : va_P D vwCl [zO ad f g, zQ (kk 4) (ad 1) 4 (zKf ad), zJ (ad 2) 1, zJ (ad 3) 2, zJ (ad 4) 3, zJ (ad 5) 4, zL la lt lf fl, zA (kk 0) lt 20 tw, zA (kk 0) lf 20 fx] H := hP
  have hD : va_D A [zO ad f g, zQ (kk 4) (ad 1) 4 (zKf ad), zJ (ad 2) 1, zJ (ad 3) 2, zJ (ad 4) 3, zJ (ad 5) 4, zL la lt lf fl, zA (kk 0) lt 20 tw, zA (kk 0) lf 20 fx] := hD
  refine lv_istore (lv' := [(4, .int r_1), (0, .ref (ad 0)), (1, .ref la), (2, .int p1), (3, .int p2)]) hx hb dX0_isPlayed_7 hl (by decide) rfl (fun ls hl => ?_)
  refine lv_aload_n hx hb dX0_isPlayed_9 rfl (lv_at hl 1 rfl) ?_
  refine lv_iload hx hb dX0_isPlayed_10 (lv_at hl 0 rfl) ?_
  refine va_put (D := D) (ci := 0) (v := .int r_1) (C := RX0) (T := TX0) (N := 25) hx hb hts in_X0 tyX0 tyX0_ok nmX0 hown hK hP hD hS 0 rfl rfl 10 (Nat.le_of_ble_eq_true rfl) (hts _ q182) (fun _ h9 => h9) rfl (tyX0_ok 10 (Nat.le_of_ble_eq_true rfl)) rfl rfl (Nat.le_of_ble_eq_true rfl) dX0_isPlayed_12 (fun H locs hP hD hS => ?_)
  have hP : va_P D vwCl [zO ad (upd f 10 r_1) g, zQ (kk 4) (ad 1) 4 (zKf ad), zJ (ad 2) 1, zJ (ad 3) 2, zJ (ad 4) 3, zJ (ad 5) 4, zL la lt lf fl, zA (kk 0) lt 20 tw, zA (kk 0) lf 20 fx] H := hP
  have hD : va_D A [zO ad (upd f 10 r_1) g, zQ (kk 4) (ad 1) 4 (zKf ad), zJ (ad 2) 1, zJ (ad 3) 2, zJ (ad 4) 3, zJ (ad 5) 4, zL la lt lf fl, zA (kk 0) lt 20 tw, zA (kk 0) lf 20 fx] := hD
  refine lv_iload hx hb dX0_isPlayed_15 (lv_at hl 0 rfl) ?_
  refine lv_bipush (v := (-4 : Int32)) hx hb dX0_isPlayed_17 (by decide) ?_
  refine lv_icmp_ne (tgt := 33) hx hb dX0_isPlayed_19 (by decide) (fun c_2 => ?_) (fun c_2 => ?_)
  · have h := h.2 c_2
    refine lv_aload_n hx hb dX0_isPlayed_33 rfl (lv_at hl 1 rfl) ?_
    refine lv_dup hx hb dX0_isPlayed_34 rfl ?_
    refine va_get (D := D) (ci := 0) (v := .int (f 7)) (C := RX0) (T := TX0) (N := 25) hx hb hts in_X0 hown hK hP 0 rfl rfl 7 (Nat.le_of_ble_eq_true rfl) (hts _ q179) (fun _ h9 => h9) rfl dX0_isPlayed_35 ?_
    refine lv_iconst (v := (1 : Int32)) hx hb dX0_isPlayed_38 (by decide) ?_
    refine lv_iadd hx hb dX0_isPlayed_39 ?_
    refine va_put (D := D) (ci := 0) (v := .int ((f 7) + (1 : Int32))) (C := RX0) (T := TX0) (N := 25) hx hb hts in_X0 tyX0 tyX0_ok nmX0 hown hK hP hD hS 0 rfl rfl 7 (Nat.le_of_ble_eq_true rfl) (hts _ q179) (fun _ h9 => h9) rfl (tyX0_ok 7 (Nat.le_of_ble_eq_true rfl)) rfl rfl (Nat.le_of_ble_eq_true rfl) dX0_isPlayed_40 (fun H locs hP hD hS => ?_)
    have hP : va_P D vwCl [zO ad (upd (upd f 10 r_1) 7 ((f 7) + (1 : Int32))) g, zQ (kk 4) (ad 1) 4 (zKf ad), zJ (ad 2) 1, zJ (ad 3) 2, zJ (ad 4) 3, zJ (ad 5) 4, zL la lt lf fl, zA (kk 0) lt 20 tw, zA (kk 0) lf 20 fx] H := hP
    have hD : va_D A [zO ad (upd (upd f 10 r_1) 7 ((f 7) + (1 : Int32))) g, zQ (kk 4) (ad 1) 4 (zKf ad), zJ (ad 2) 1, zJ (ad 3) 2, zJ (ad 4) 3, zJ (ad 5) 4, zL la lt lf fl, zA (kk 0) lt 20 tw, zA (kk 0) lf 20 fx] := hD
    refine lv_aload_n hx hb dX0_isPlayed_43 rfl (lv_at hl 1 rfl) ?_
    refine lv_dup hx hb dX0_isPlayed_44 rfl ?_
    refine va_get (D := D) (ci := 0) (v := .int (f 9)) (C := RX0) (T := TX0) (N := 25) hx hb hts in_X0 hown hK hP 0 rfl rfl 9 (Nat.le_of_ble_eq_true rfl) (hts _ q181) (fun _ h9 => h9) rfl dX0_isPlayed_45 ?_
    refine lv_iconst (v := (1 : Int32)) hx hb dX0_isPlayed_48 (by decide) ?_
    refine lv_iload hx hb dX0_isPlayed_49 (lv_at hl 0 rfl) ?_
    refine lv_ishl hx hb dX0_isPlayed_51 ?_
    refine lv_ior hx hb dX0_isPlayed_52 ?_
    refine lv_topi (fun v_3 ev_3 => ?_)
    have h := h v_3 ev_3
    refine va_put (D := D) (ci := 0) (v := .int v_3) (C := RX0) (T := TX0) (N := 25) hx hb hts in_X0 tyX0 tyX0_ok nmX0 hown hK hP hD hS 0 rfl rfl 9 (Nat.le_of_ble_eq_true rfl) (hts _ q181) (fun _ h9 => h9) rfl (tyX0_ok 9 (Nat.le_of_ble_eq_true rfl)) rfl rfl (Nat.le_of_ble_eq_true rfl) dX0_isPlayed_53 (fun H locs hP hD hS => ?_)
    have hP : va_P D vwCl [zO ad (upd (upd (upd f 10 r_1) 7 ((f 7) + (1 : Int32))) 9 v_3) g, zQ (kk 4) (ad 1) 4 (zKf ad), zJ (ad 2) 1, zJ (ad 3) 2, zJ (ad 4) 3, zJ (ad 5) 4, zL la lt lf fl, zA (kk 0) lt 20 tw, zA (kk 0) lf 20 fx] H := hP
    have hD : va_D A [zO ad (upd (upd (upd f 10 r_1) 7 ((f 7) + (1 : Int32))) 9 v_3) g, zQ (kk 4) (ad 1) 4 (zKf ad), zJ (ad 2) 1, zJ (ad 3) 2, zJ (ad 4) 3, zJ (ad 5) 4, zL la lt lf fl, zA (kk 0) lt 20 tw, zA (kk 0) lf 20 fx] := hD
    refine lv_aload_n hx hb dX0_isPlayed_56 rfl (lv_at hl 2 rfl) ?_
    refine lv_iload hx hb dX0_isPlayed_57 (lv_at hl 0 rfl) ?_
    refine lv_iconst (v := (2 : Int32)) hx hb dX0_isPlayed_59 (by decide) ?_
    refine lv_iconst (v := (1 : Int32)) hx hb dX0_isPlayed_60 (by decide) ?_
    refine lv_bipush (v := (99 : Int32)) hx hb dX0_isPlayed_61 (by decide) ?_
    have hrc := va_recv hK hP (ci := 5) (q0 := 6) rfl rfl
    refine zc_v (wc := [zL la lt lf fl, zA (kk 0) lt 20 tw, zA (kk 0) lf 20 fx]) (wr := [zO ad (upd (upd (upd f 10 r_1) 7 ((f 7) + (1 : Int32))) 9 v_3) g, zQ (kk 4) (ad 1) 4 (zKf ad), zJ (ad 2) 1, zJ (ad 3) 2, zJ (ad 4) 3, zJ (ad 5) 4]) (w1 := (fun u : (Nat → Int32) => [zL la lt lf fl, zA (kk 0) lt 20 u, zA (kk 0) lf 20 fx])) (rest := []) [6, 7, 8] [0, 1, 2, 3, 4, 5] rfl rfl (by decide) (by decide) (by decide) hA hP hD hS (fun hP hD => va_runV (As := [.int r_1, .int (2 : Int32), .int (1 : Int32), .int (99 : Int32)]) (rest := []) ⟨hx, hb, hml, hown, hts⟩ (metX5_grows l D kk la lt lf _ fl tw fx r_1 (2 : Int32) (1 : Int32) (99 : Int32) _ h) (cwV 4 hts (lw_V q619 q620 q621 q69 q622) rfl rfl rfl pdX5_grows ⟨(Nat.le_of_ble_eq_true rfl), (Nat.le_of_ble_eq_true rfl)⟩) (zp_V hK hN hrc hP hD) rfl rfl hl.1 rfl (lv_room (Nat.le_of_ble_eq_true rfl)) dX0_isPlayed_63 ⟨(Nat.le_of_ble_eq_true rfl), (Nat.le_of_ble_eq_true rfl)⟩) (fun u H locs h hP hD hS => ?_)
    obtain ⟨tw_5, rfl⟩ : ∃ z, z = u := ⟨_, rfl⟩
    try dsimp only at h
    have hP : va_P D vwCl [zO ad (upd (upd (upd f 10 r_1) 7 ((f 7) + (1 : Int32))) 9 v_3) g, zQ (kk 4) (ad 1) 4 (zKf ad), zJ (ad 2) 1, zJ (ad 3) 2, zJ (ad 4) 3, zJ (ad 5) 4, zL la lt lf fl, zA (kk 0) lt 20 tw_5, zA (kk 0) lf 20 fx] H := hP
    have hD : va_D A [zO ad (upd (upd (upd f 10 r_1) 7 ((f 7) + (1 : Int32))) 9 v_3) g, zQ (kk 4) (ad 1) 4 (zKf ad), zJ (ad 2) 1, zJ (ad 3) 2, zJ (ad 4) 3, zJ (ad 5) 4, zL la lt lf fl, zA (kk 0) lt 20 tw_5, zA (kk 0) lf 20 fx] := hD
    refine lv_aload_n hx hb dX0_isPlayed_66 rfl (lv_at hl 2 rfl) ?_
    refine lv_iload hx hb dX0_isPlayed_67 (lv_at hl 0 rfl) ?_
    refine lv_iconst (v := (1 : Int32)) hx hb dX0_isPlayed_69 (by decide) ?_
    refine lv_aload_n hx hb dX0_isPlayed_70 rfl (lv_at hl 1 rfl) ?_
    refine va_get (D := D) (ci := 0) (v := .ref (ad 1)) (C := RX0) (T := TX0) (N := 25) hx hb hts in_X0 hown hK hP 0 rfl rfl 0 (Nat.le_of_ble_eq_true rfl) (hts _ q172) (fun _ h9 => h9) rfl dX0_isPlayed_71 ?_
    refine lv_aload_n hx hb dX0_isPlayed_74 rfl (lv_at hl 2 rfl) ?_
    refine lv_iload hx hb dX0_isPlayed_75 (lv_at hl 0 rfl) ?_
    refine lv_iconst (v := (0 : Int32)) hx hb dX0_isPlayed_77 (by decide) ?_
    have hrc := va_recv hK hP (ci := 5) (q0 := 6) rfl rfl
    refine zc_i (wc := [zL la lt lf fl, zA (kk 0) lt 20 tw_5, zA (kk 0) lf 20 fx]) (wr := [zO ad (upd (upd (upd f 10 r_1) 7 ((f 7) + (1 : Int32))) 9 v_3) g, zQ (kk 4) (ad 1) 4 (zKf ad), zJ (ad 2) 1, zJ (ad 3) 2, zJ (ad 4) 3, zJ (ad 5) 4]) (w1 := (fun u : Unit => [zL la lt lf fl, zA (kk 0) lt 20 tw_5, zA (kk 0) lf 20 fx])) (rest := [.ref (ad 1), .int (1 : Int32), .int r_1, .ref la]) [6, 7, 8] [0, 1, 2, 3, 4, 5] rfl rfl (by decide) (by decide) (by decide) hA hP hD hS (fun hP hD => va_runV (As := [.int r_1, .int (0 : Int32)]) (rest := [.ref (ad 1), .int (1 : Int32), .int r_1, .ref la]) ⟨hx, hb, hml, hown, hts⟩ (metX5_of l D kk la lt lf _ fl tw_5 fx r_1 (0 : Int32) _ h) (cwV 2 hts (lw_V q529 q513 q514 q69 q515) rfl rfl rfl pdX5_of ⟨(Nat.le_of_ble_eq_true rfl), (Nat.le_of_ble_eq_true rfl)⟩) (zp_V hK hN hrc hP hD) rfl rfl hl.1 rfl (lv_room (Nat.le_of_ble_eq_true rfl)) dX0_isPlayed_78 ⟨(Nat.le_of_ble_eq_true rfl), (Nat.le_of_ble_eq_true rfl)⟩) (fun r_6 u H locs h hP hD hS => ?_)
    try dsimp only at h
    have hP : va_P D vwCl [zO ad (upd (upd (upd f 10 r_1) 7 ((f 7) + (1 : Int32))) 9 v_3) g, zQ (kk 4) (ad 1) 4 (zKf ad), zJ (ad 2) 1, zJ (ad 3) 2, zJ (ad 4) 3, zJ (ad 5) 4, zL la lt lf fl, zA (kk 0) lt 20 tw_5, zA (kk 0) lf 20 fx] H := hP
    have hD : va_D A [zO ad (upd (upd (upd f 10 r_1) 7 ((f 7) + (1 : Int32))) 9 v_3) g, zQ (kk 4) (ad 1) 4 (zKf ad), zJ (ad 2) 1, zJ (ad 3) 2, zJ (ad 4) 3, zJ (ad 5) 4, zL la lt lf fl, zA (kk 0) lt 20 tw_5, zA (kk 0) lf 20 fx] := hD
    obtain ⟨hin, h⟩ := h
    refine va_aldq hx hb hK hP 1 4 rfl rfl hin dX0_isPlayed_81 ?_
    rcases z_in4 hin with c_7 | c_7 | c_7 | c_7
    · have h := h.1 c_7
      rw [show va_rf (zKf ad r_6.toNatClampNeg) = .ref (ad 2) from by rw [c_7]; rfl]
      have hrc := va_recv hK hP (ci := 1) (q0 := 2) rfl rfl
      refine zc_i (wc := []) (wr := [zO ad (upd (upd (upd f 10 r_1) 7 ((f 7) + (1 : Int32))) 9 v_3) g, zQ (kk 4) (ad 1) 4 (zKf ad), zJ (ad 2) 1, zJ (ad 3) 2, zJ (ad 4) 3, zJ (ad 5) 4, zL la lt lf fl, zA (kk 0) lt 20 tw_5, zA (kk 0) lf 20 fx]) (w1 := (fun u : Unit => [])) (rest := [.int (1 : Int32), .int r_1, .ref la]) [] [0, 1, 2, 3, 4, 5, 6, 7, 8] rfl rfl (by decide) (by decide) (by decide) hA hP hD hS (fun hP hD => va_runV (As := []) (rest := [.int (1 : Int32), .int r_1, .ref la]) ⟨hx, hb, hml, hown, hts⟩ (metX1_trains l D kk (ad 2) _ _ h) (cwV 0 hts (lw_V q627 q628 q629 q65 q642) rfl rfl rfl pdX1_trains ⟨(Nat.le_of_ble_eq_true rfl), (Nat.le_of_ble_eq_true rfl)⟩) (zp_V hK hN hrc hP hD) rfl rfl hl.1 rfl (lv_room (Nat.le_of_ble_eq_true rfl)) dX0_isPlayed_82 ⟨(Nat.le_of_ble_eq_true rfl), (Nat.le_of_ble_eq_true rfl)⟩) (fun r_8 u H locs h hP hD hS => ?_)
      try dsimp only at h
      have hP : va_P D vwCl [zO ad (upd (upd (upd f 10 r_1) 7 ((f 7) + (1 : Int32))) 9 v_3) g, zQ (kk 4) (ad 1) 4 (zKf ad), zJ (ad 2) 1, zJ (ad 3) 2, zJ (ad 4) 3, zJ (ad 5) 4, zL la lt lf fl, zA (kk 0) lt 20 tw_5, zA (kk 0) lf 20 fx] H := hP
      have hD : va_D A [zO ad (upd (upd (upd f 10 r_1) 7 ((f 7) + (1 : Int32))) 9 v_3) g, zQ (kk 4) (ad 1) 4 (zKf ad), zJ (ad 2) 1, zJ (ad 3) 2, zJ (ad 4) 3, zJ (ad 5) 4, zL la lt lf fl, zA (kk 0) lt 20 tw_5, zA (kk 0) lf 20 fx] := hD
      refine lv_bipush (v := (20 : Int32)) hx hb dX0_isPlayed_85 (by decide) ?_
      have hrc := va_recv hK hP (ci := 5) (q0 := 6) rfl rfl
      refine zc_v (wc := [zL la lt lf fl, zA (kk 0) lt 20 tw_5, zA (kk 0) lf 20 fx]) (wr := [zO ad (upd (upd (upd f 10 r_1) 7 ((f 7) + (1 : Int32))) 9 v_3) g, zQ (kk 4) (ad 1) 4 (zKf ad), zJ (ad 2) 1, zJ (ad 3) 2, zJ (ad 4) 3, zJ (ad 5) 4]) (w1 := (fun u : (Nat → Int32) => [zL la lt lf fl, zA (kk 0) lt 20 u, zA (kk 0) lf 20 fx])) (rest := []) [6, 7, 8] [0, 1, 2, 3, 4, 5] rfl rfl (by decide) (by decide) (by decide) hA hP hD hS (fun hP hD => va_runV (As := [.int r_1, .int (1 : Int32), .int r_8, .int (20 : Int32)]) (rest := []) ⟨hx, hb, hml, hown, hts⟩ (metX5_grows l D kk la lt lf _ fl tw_5 fx r_1 (1 : Int32) r_8 (20 : Int32) _ h) (cwV 4 hts (lw_V q619 q620 q621 q69 q622) rfl rfl rfl pdX5_grows ⟨(Nat.le_of_ble_eq_true rfl), (Nat.le_of_ble_eq_true rfl)⟩) (zp_V hK hN hrc hP hD) rfl rfl hl.1 rfl (lv_room (Nat.le_of_ble_eq_true rfl)) dX0_isPlayed_87 ⟨(Nat.le_of_ble_eq_true rfl), (Nat.le_of_ble_eq_true rfl)⟩) (fun u H locs h hP hD hS => ?_)
      obtain ⟨tw_10, rfl⟩ : ∃ z, z = u := ⟨_, rfl⟩
      try dsimp only at h
      have hP : va_P D vwCl [zO ad (upd (upd (upd f 10 r_1) 7 ((f 7) + (1 : Int32))) 9 v_3) g, zQ (kk 4) (ad 1) 4 (zKf ad), zJ (ad 2) 1, zJ (ad 3) 2, zJ (ad 4) 3, zJ (ad 5) 4, zL la lt lf fl, zA (kk 0) lt 20 tw_10, zA (kk 0) lf 20 fx] H := hP
      have hD : va_D A [zO ad (upd (upd (upd f 10 r_1) 7 ((f 7) + (1 : Int32))) 9 v_3) g, zQ (kk 4) (ad 1) 4 (zKf ad), zJ (ad 2) 1, zJ (ad 3) 2, zJ (ad 4) 3, zJ (ad 5) 4, zL la lt lf fl, zA (kk 0) lt 20 tw_10, zA (kk 0) lf 20 fx] := hD
      refine lv_aload_n hx hb dX0_isPlayed_90 rfl (lv_at hl 2 rfl) ?_
      refine lv_iload hx hb dX0_isPlayed_91 (lv_at hl 0 rfl) ?_
      refine lv_iload_n hx hb dX0_isPlayed_93 rfl (lv_at hl 3 rfl) ?_
      have cut_102 : ∀ (f : Nat → Int32) (tw : Nat → Int32) (s1 : Int32), wpX0_isPlayed_102 p1 p2 Q  f tw s1 → ∀ (H : Heap) (locs : List Loc), va_P D vwCl [zO ad f g, zQ (kk 4) (ad 1) 4 (zKf ad), zJ (ad 2) 1, zJ (ad 3) 2, zJ (ad 4) 3, zJ (ad 5) 4, zL la lt lf fl, zA (kk 0) lt 20 tw, zA (kk 0) lf 20 fx] H → va_D A [zO ad f g, zQ (kk 4) (ad 1) 4 (zKf ad), zJ (ad 2) 1, zJ (ad 3) 2, zJ (ad 4) 3, zJ (ad 5) 4, zL la lt lf fl, zA (kk 0) lt 20 tw, zA (kk 0) lf 20 fx] → va_S A s.heap H locs → ∀ ls : Array Slot, lv_has ls 5 [] → W p l e { frames := 5, cells := 0, slots := 0, locals := 113 } s m ([.ref (ad 0), .ref la, .int p1, .int p2] : List Value).toArray below meth c H locs 0 0 (MQ below (va_Qv (fun (u : (Nat → Int32) × (Nat → Int32)) => Q u.1 u.2) (zB D A (fun u : (Nat → Int32) × (Nat → Int32) => [zO ad u.1 g, zQ (kk 4) (ad 1) 4 (zKf ad), zJ (ad 2) 1, zJ (ad 3) 2, zJ (ad 4) 3, zJ (ad 5) 4, zL la lt lf fl, zA (kk 0) lt 20 u.2, zA (kk 0) lf 20 fx])) A) ([.ref (ad 0), .ref la, .int p1, .int p2] : List Value).toArray s 0 0 A) (F0 m 102 ls [.int s1, .ref la]) := by
        intro f tw s1 h H locs hP hD hS ls hl
        unfold wpX0_isPlayed_102 at h
        refine lv_iconst (v := (1 : Int32)) hx hb dX0_isPlayed_102 (by decide) ?_
        refine lv_iconst (v := (-1 : Int32)) hx hb dX0_isPlayed_103 (by decide) ?_
        refine lv_bipush (v := (20 : Int32)) hx hb dX0_isPlayed_104 (by decide) ?_
        have hrc := va_recv hK hP (ci := 5) (q0 := 6) rfl rfl
        refine zc_v (wc := [zL la lt lf fl, zA (kk 0) lt 20 tw, zA (kk 0) lf 20 fx]) (wr := [zO ad f g, zQ (kk 4) (ad 1) 4 (zKf ad), zJ (ad 2) 1, zJ (ad 3) 2, zJ (ad 4) 3, zJ (ad 5) 4]) (w1 := (fun u : (Nat → Int32) => [zL la lt lf fl, zA (kk 0) lt 20 u, zA (kk 0) lf 20 fx])) (rest := []) [6, 7, 8] [0, 1, 2, 3, 4, 5] rfl rfl (by decide) (by decide) (by decide) hA hP hD hS (fun hP hD => va_runV (As := [.int s1, .int (1 : Int32), .int (-1 : Int32), .int (20 : Int32)]) (rest := []) ⟨hx, hb, hml, hown, hts⟩ (metX5_grows l D kk la lt lf _ fl tw fx s1 (1 : Int32) (-1 : Int32) (20 : Int32) _ h) (cwV 4 hts (lw_V q619 q620 q621 q69 q622) rfl rfl rfl pdX5_grows ⟨(Nat.le_of_ble_eq_true rfl), (Nat.le_of_ble_eq_true rfl)⟩) (zp_V hK hN hrc hP hD) rfl rfl hl.1 rfl (lv_room (Nat.le_of_ble_eq_true rfl)) dX0_isPlayed_106 ⟨(Nat.le_of_ble_eq_true rfl), (Nat.le_of_ble_eq_true rfl)⟩) (fun u H locs h hP hD hS => ?_)
        obtain ⟨tw_12, rfl⟩ : ∃ z, z = u := ⟨_, rfl⟩
        try dsimp only at h
        have hP : va_P D vwCl [zO ad f g, zQ (kk 4) (ad 1) 4 (zKf ad), zJ (ad 2) 1, zJ (ad 3) 2, zJ (ad 4) 3, zJ (ad 5) 4, zL la lt lf fl, zA (kk 0) lt 20 tw_12, zA (kk 0) lf 20 fx] H := hP
        have hD : va_D A [zO ad f g, zQ (kk 4) (ad 1) 4 (zKf ad), zJ (ad 2) 1, zJ (ad 3) 2, zJ (ad 4) 3, zJ (ad 5) 4, zL la lt lf fl, zA (kk 0) lt 20 tw_12, zA (kk 0) lf 20 fx] := hD
        exact zr_v hx hb hr hlk hP hD hS (f, tw_12) [0, 1, 2, 3, 4, 5, 6, 7, 8] rfl (by decide) dX0_isPlayed_109 h
      refine lv_icmp_ne (tgt := 101) hx hb dX0_isPlayed_94 (by decide) (fun c_13 => ?_) (fun c_13 => ?_)
      · have h := h.2 c_13
        refine lv_iload_n hx hb dX0_isPlayed_101 rfl (lv_at hl 3 rfl) ?_
        exact cut_102 (upd (upd (upd f 10 r_1) 7 ((f 7) + (1 : Int32))) 9 v_3) tw_10 p1 h _ _ hP hD hS _ (lv_sub hl [] rfl)
      · have h := h.1 c_13
        refine lv_iload_n hx hb dX0_isPlayed_97 rfl (lv_at hl 4 rfl) ?_
        refine lv_goto (tgt := 102) hx hb dX0_isPlayed_98 (by decide) ?_
        exact cut_102 (upd (upd (upd f 10 r_1) 7 ((f 7) + (1 : Int32))) 9 v_3) tw_10 p2 h _ _ hP hD hS _ (lv_sub hl [] rfl)
    · have h := h.2.1 c_7
      rw [show va_rf (zKf ad r_6.toNatClampNeg) = .ref (ad 3) from by rw [c_7]; rfl]
      have hrc := va_recv hK hP (ci := 2) (q0 := 3) rfl rfl
      refine zc_i (wc := [zJ (ad 3) 2]) (wr := [zO ad (upd (upd (upd f 10 r_1) 7 ((f 7) + (1 : Int32))) 9 v_3) g, zQ (kk 4) (ad 1) 4 (zKf ad), zJ (ad 2) 1, zJ (ad 4) 3, zJ (ad 5) 4, zL la lt lf fl, zA (kk 0) lt 20 tw_5, zA (kk 0) lf 20 fx]) (w1 := (fun u : Unit => [zJ (ad 3) 2])) (rest := [.int (1 : Int32), .int r_1, .ref la]) [3] [0, 1, 2, 4, 5, 6, 7, 8] rfl rfl (by decide) (by decide) (by decide) hA hP hD hS (fun hP hD => va_runU (As := []) (rest := [.int (1 : Int32), .int r_1, .ref la]) ⟨hx, hb, hml, hown, hts⟩ (metX2_trains l D kk (ad 3) _ _ h) (va_cwO (owner := "LoseLeague$Plain") 0 hts (lw_O q627 q630 q628 q637 q638 q66 q639) rfl rfl rfl q642 pdX1_trains.2 ⟨(Nat.le_of_ble_eq_true rfl), (Nat.le_of_ble_eq_true rfl)⟩) (zp_V hK hN hrc hP hD) rfl rfl hl.1 rfl (lv_room (Nat.le_of_ble_eq_true rfl)) dX0_isPlayed_82 ⟨(Nat.le_of_ble_eq_true rfl), (Nat.le_of_ble_eq_true rfl)⟩) (fun r_14 u H locs h hP hD hS => ?_)
      try dsimp only at h
      have hP : va_P D vwCl [zO ad (upd (upd (upd f 10 r_1) 7 ((f 7) + (1 : Int32))) 9 v_3) g, zQ (kk 4) (ad 1) 4 (zKf ad), zJ (ad 2) 1, zJ (ad 4) 3, zJ (ad 5) 4, zL la lt lf fl, zA (kk 0) lt 20 tw_5, zA (kk 0) lf 20 fx, zJ (ad 3) 2] H := hP
      have hD : va_D A [zO ad (upd (upd (upd f 10 r_1) 7 ((f 7) + (1 : Int32))) 9 v_3) g, zQ (kk 4) (ad 1) 4 (zKf ad), zJ (ad 2) 1, zJ (ad 4) 3, zJ (ad 5) 4, zL la lt lf fl, zA (kk 0) lt 20 tw_5, zA (kk 0) lf 20 fx, zJ (ad 3) 2] := hD
      refine lv_bipush (v := (20 : Int32)) hx hb dX0_isPlayed_85 (by decide) ?_
      have hrc := va_recv hK hP (ci := 5) (q0 := 5) rfl rfl
      refine zc_v (wc := [zL la lt lf fl, zA (kk 0) lt 20 tw_5, zA (kk 0) lf 20 fx]) (wr := [zO ad (upd (upd (upd f 10 r_1) 7 ((f 7) + (1 : Int32))) 9 v_3) g, zQ (kk 4) (ad 1) 4 (zKf ad), zJ (ad 2) 1, zJ (ad 4) 3, zJ (ad 5) 4, zJ (ad 3) 2]) (w1 := (fun u : (Nat → Int32) => [zL la lt lf fl, zA (kk 0) lt 20 u, zA (kk 0) lf 20 fx])) (rest := []) [5, 6, 7] [0, 1, 2, 3, 4, 8] rfl rfl (by decide) (by decide) (by decide) hA hP hD hS (fun hP hD => va_runV (As := [.int r_1, .int (1 : Int32), .int r_14, .int (20 : Int32)]) (rest := []) ⟨hx, hb, hml, hown, hts⟩ (metX5_grows l D kk la lt lf _ fl tw_5 fx r_1 (1 : Int32) r_14 (20 : Int32) _ h) (cwV 4 hts (lw_V q619 q620 q621 q69 q622) rfl rfl rfl pdX5_grows ⟨(Nat.le_of_ble_eq_true rfl), (Nat.le_of_ble_eq_true rfl)⟩) (zp_V hK hN hrc hP hD) rfl rfl hl.1 rfl (lv_room (Nat.le_of_ble_eq_true rfl)) dX0_isPlayed_87 ⟨(Nat.le_of_ble_eq_true rfl), (Nat.le_of_ble_eq_true rfl)⟩) (fun u H locs h hP hD hS => ?_)
      obtain ⟨tw_16, rfl⟩ : ∃ z, z = u := ⟨_, rfl⟩
      try dsimp only at h
      have hP : va_P D vwCl [zO ad (upd (upd (upd f 10 r_1) 7 ((f 7) + (1 : Int32))) 9 v_3) g, zQ (kk 4) (ad 1) 4 (zKf ad), zJ (ad 2) 1, zJ (ad 4) 3, zJ (ad 5) 4, zJ (ad 3) 2, zL la lt lf fl, zA (kk 0) lt 20 tw_16, zA (kk 0) lf 20 fx] H := hP
      have hD : va_D A [zO ad (upd (upd (upd f 10 r_1) 7 ((f 7) + (1 : Int32))) 9 v_3) g, zQ (kk 4) (ad 1) 4 (zKf ad), zJ (ad 2) 1, zJ (ad 4) 3, zJ (ad 5) 4, zJ (ad 3) 2, zL la lt lf fl, zA (kk 0) lt 20 tw_16, zA (kk 0) lf 20 fx] := hD
      refine lv_aload_n hx hb dX0_isPlayed_90 rfl (lv_at hl 2 rfl) ?_
      refine lv_iload hx hb dX0_isPlayed_91 (lv_at hl 0 rfl) ?_
      refine lv_iload_n hx hb dX0_isPlayed_93 rfl (lv_at hl 3 rfl) ?_
      have cut_102 : ∀ (f : Nat → Int32) (tw : Nat → Int32) (s1 : Int32), wpX0_isPlayed_102 p1 p2 Q  f tw s1 → ∀ (H : Heap) (locs : List Loc), va_P D vwCl [zO ad f g, zQ (kk 4) (ad 1) 4 (zKf ad), zJ (ad 2) 1, zJ (ad 3) 2, zJ (ad 4) 3, zJ (ad 5) 4, zL la lt lf fl, zA (kk 0) lt 20 tw, zA (kk 0) lf 20 fx] H → va_D A [zO ad f g, zQ (kk 4) (ad 1) 4 (zKf ad), zJ (ad 2) 1, zJ (ad 3) 2, zJ (ad 4) 3, zJ (ad 5) 4, zL la lt lf fl, zA (kk 0) lt 20 tw, zA (kk 0) lf 20 fx] → va_S A s.heap H locs → ∀ ls : Array Slot, lv_has ls 5 [] → W p l e { frames := 5, cells := 0, slots := 0, locals := 113 } s m ([.ref (ad 0), .ref la, .int p1, .int p2] : List Value).toArray below meth c H locs 0 0 (MQ below (va_Qv (fun (u : (Nat → Int32) × (Nat → Int32)) => Q u.1 u.2) (zB D A (fun u : (Nat → Int32) × (Nat → Int32) => [zO ad u.1 g, zQ (kk 4) (ad 1) 4 (zKf ad), zJ (ad 2) 1, zJ (ad 3) 2, zJ (ad 4) 3, zJ (ad 5) 4, zL la lt lf fl, zA (kk 0) lt 20 u.2, zA (kk 0) lf 20 fx])) A) ([.ref (ad 0), .ref la, .int p1, .int p2] : List Value).toArray s 0 0 A) (F0 m 102 ls [.int s1, .ref la]) := by
        intro f tw s1 h H locs hP hD hS ls hl
        unfold wpX0_isPlayed_102 at h
        refine lv_iconst (v := (1 : Int32)) hx hb dX0_isPlayed_102 (by decide) ?_
        refine lv_iconst (v := (-1 : Int32)) hx hb dX0_isPlayed_103 (by decide) ?_
        refine lv_bipush (v := (20 : Int32)) hx hb dX0_isPlayed_104 (by decide) ?_
        have hrc := va_recv hK hP (ci := 5) (q0 := 6) rfl rfl
        refine zc_v (wc := [zL la lt lf fl, zA (kk 0) lt 20 tw, zA (kk 0) lf 20 fx]) (wr := [zO ad f g, zQ (kk 4) (ad 1) 4 (zKf ad), zJ (ad 2) 1, zJ (ad 3) 2, zJ (ad 4) 3, zJ (ad 5) 4]) (w1 := (fun u : (Nat → Int32) => [zL la lt lf fl, zA (kk 0) lt 20 u, zA (kk 0) lf 20 fx])) (rest := []) [6, 7, 8] [0, 1, 2, 3, 4, 5] rfl rfl (by decide) (by decide) (by decide) hA hP hD hS (fun hP hD => va_runV (As := [.int s1, .int (1 : Int32), .int (-1 : Int32), .int (20 : Int32)]) (rest := []) ⟨hx, hb, hml, hown, hts⟩ (metX5_grows l D kk la lt lf _ fl tw fx s1 (1 : Int32) (-1 : Int32) (20 : Int32) _ h) (cwV 4 hts (lw_V q619 q620 q621 q69 q622) rfl rfl rfl pdX5_grows ⟨(Nat.le_of_ble_eq_true rfl), (Nat.le_of_ble_eq_true rfl)⟩) (zp_V hK hN hrc hP hD) rfl rfl hl.1 rfl (lv_room (Nat.le_of_ble_eq_true rfl)) dX0_isPlayed_106 ⟨(Nat.le_of_ble_eq_true rfl), (Nat.le_of_ble_eq_true rfl)⟩) (fun u H locs h hP hD hS => ?_)
        obtain ⟨tw_18, rfl⟩ : ∃ z, z = u := ⟨_, rfl⟩
        try dsimp only at h
        have hP : va_P D vwCl [zO ad f g, zQ (kk 4) (ad 1) 4 (zKf ad), zJ (ad 2) 1, zJ (ad 3) 2, zJ (ad 4) 3, zJ (ad 5) 4, zL la lt lf fl, zA (kk 0) lt 20 tw_18, zA (kk 0) lf 20 fx] H := hP
        have hD : va_D A [zO ad f g, zQ (kk 4) (ad 1) 4 (zKf ad), zJ (ad 2) 1, zJ (ad 3) 2, zJ (ad 4) 3, zJ (ad 5) 4, zL la lt lf fl, zA (kk 0) lt 20 tw_18, zA (kk 0) lf 20 fx] := hD
        exact zr_v hx hb hr hlk hP hD hS (f, tw_18) [0, 1, 2, 3, 4, 5, 6, 7, 8] rfl (by decide) dX0_isPlayed_109 h
      refine lv_icmp_ne (tgt := 101) hx hb dX0_isPlayed_94 (by decide) (fun c_19 => ?_) (fun c_19 => ?_)
      · have h := h.2 c_19
        refine lv_iload_n hx hb dX0_isPlayed_101 rfl (lv_at hl 3 rfl) ?_
        exact cut_102 (upd (upd (upd f 10 r_1) 7 ((f 7) + (1 : Int32))) 9 v_3) tw_16 p1 h _ _ (hP.sub [0, 1, 2, 5, 3, 4, 6, 7, 8] rfl) (hD.sub [0, 1, 2, 5, 3, 4, 6, 7, 8] (by decide) rfl) hS _ (lv_sub hl [] rfl)
      · have h := h.1 c_19
        refine lv_iload_n hx hb dX0_isPlayed_97 rfl (lv_at hl 4 rfl) ?_
        refine lv_goto (tgt := 102) hx hb dX0_isPlayed_98 (by decide) ?_
        exact cut_102 (upd (upd (upd f 10 r_1) 7 ((f 7) + (1 : Int32))) 9 v_3) tw_16 p2 h _ _ (hP.sub [0, 1, 2, 5, 3, 4, 6, 7, 8] rfl) (hD.sub [0, 1, 2, 5, 3, 4, 6, 7, 8] (by decide) rfl) hS _ (lv_sub hl [] rfl)
    · have h := h.2.2.1 c_7
      rw [show va_rf (zKf ad r_6.toNatClampNeg) = .ref (ad 4) from by rw [c_7]; rfl]
      have hrc := va_recv hK hP (ci := 3) (q0 := 4) rfl rfl
      refine zc_i (wc := []) (wr := [zO ad (upd (upd (upd f 10 r_1) 7 ((f 7) + (1 : Int32))) 9 v_3) g, zQ (kk 4) (ad 1) 4 (zKf ad), zJ (ad 2) 1, zJ (ad 3) 2, zJ (ad 4) 3, zJ (ad 5) 4, zL la lt lf fl, zA (kk 0) lt 20 tw_5, zA (kk 0) lf 20 fx]) (w1 := (fun u : Unit => [])) (rest := [.int (1 : Int32), .int r_1, .ref la]) [] [0, 1, 2, 3, 4, 5, 6, 7, 8] rfl rfl (by decide) (by decide) (by decide) hA hP hD hS (fun hP hD => va_runU (As := []) (rest := [.int (1 : Int32), .int r_1, .ref la]) ⟨hx, hb, hml, hown, hts⟩ (metX1_trains l D kk (ad 4) _ _ h) (va_cwU (owner := "LoseLeague$Plain") 0 hts (lw_U q627 q630 q641 q628 q65 q642) rfl rfl rfl rfl pdX1_trains.2 ⟨(Nat.le_of_ble_eq_true rfl), (Nat.le_of_ble_eq_true rfl)⟩) (zp_V hK hN hrc hP hD) rfl rfl hl.1 rfl (lv_room (Nat.le_of_ble_eq_true rfl)) dX0_isPlayed_82 ⟨(Nat.le_of_ble_eq_true rfl), (Nat.le_of_ble_eq_true rfl)⟩) (fun r_20 u H locs h hP hD hS => ?_)
      try dsimp only at h
      have hP : va_P D vwCl [zO ad (upd (upd (upd f 10 r_1) 7 ((f 7) + (1 : Int32))) 9 v_3) g, zQ (kk 4) (ad 1) 4 (zKf ad), zJ (ad 2) 1, zJ (ad 3) 2, zJ (ad 4) 3, zJ (ad 5) 4, zL la lt lf fl, zA (kk 0) lt 20 tw_5, zA (kk 0) lf 20 fx] H := hP
      have hD : va_D A [zO ad (upd (upd (upd f 10 r_1) 7 ((f 7) + (1 : Int32))) 9 v_3) g, zQ (kk 4) (ad 1) 4 (zKf ad), zJ (ad 2) 1, zJ (ad 3) 2, zJ (ad 4) 3, zJ (ad 5) 4, zL la lt lf fl, zA (kk 0) lt 20 tw_5, zA (kk 0) lf 20 fx] := hD
      refine lv_bipush (v := (20 : Int32)) hx hb dX0_isPlayed_85 (by decide) ?_
      have hrc := va_recv hK hP (ci := 5) (q0 := 6) rfl rfl
      refine zc_v (wc := [zL la lt lf fl, zA (kk 0) lt 20 tw_5, zA (kk 0) lf 20 fx]) (wr := [zO ad (upd (upd (upd f 10 r_1) 7 ((f 7) + (1 : Int32))) 9 v_3) g, zQ (kk 4) (ad 1) 4 (zKf ad), zJ (ad 2) 1, zJ (ad 3) 2, zJ (ad 4) 3, zJ (ad 5) 4]) (w1 := (fun u : (Nat → Int32) => [zL la lt lf fl, zA (kk 0) lt 20 u, zA (kk 0) lf 20 fx])) (rest := []) [6, 7, 8] [0, 1, 2, 3, 4, 5] rfl rfl (by decide) (by decide) (by decide) hA hP hD hS (fun hP hD => va_runV (As := [.int r_1, .int (1 : Int32), .int r_20, .int (20 : Int32)]) (rest := []) ⟨hx, hb, hml, hown, hts⟩ (metX5_grows l D kk la lt lf _ fl tw_5 fx r_1 (1 : Int32) r_20 (20 : Int32) _ h) (cwV 4 hts (lw_V q619 q620 q621 q69 q622) rfl rfl rfl pdX5_grows ⟨(Nat.le_of_ble_eq_true rfl), (Nat.le_of_ble_eq_true rfl)⟩) (zp_V hK hN hrc hP hD) rfl rfl hl.1 rfl (lv_room (Nat.le_of_ble_eq_true rfl)) dX0_isPlayed_87 ⟨(Nat.le_of_ble_eq_true rfl), (Nat.le_of_ble_eq_true rfl)⟩) (fun u H locs h hP hD hS => ?_)
      obtain ⟨tw_22, rfl⟩ : ∃ z, z = u := ⟨_, rfl⟩
      try dsimp only at h
      have hP : va_P D vwCl [zO ad (upd (upd (upd f 10 r_1) 7 ((f 7) + (1 : Int32))) 9 v_3) g, zQ (kk 4) (ad 1) 4 (zKf ad), zJ (ad 2) 1, zJ (ad 3) 2, zJ (ad 4) 3, zJ (ad 5) 4, zL la lt lf fl, zA (kk 0) lt 20 tw_22, zA (kk 0) lf 20 fx] H := hP
      have hD : va_D A [zO ad (upd (upd (upd f 10 r_1) 7 ((f 7) + (1 : Int32))) 9 v_3) g, zQ (kk 4) (ad 1) 4 (zKf ad), zJ (ad 2) 1, zJ (ad 3) 2, zJ (ad 4) 3, zJ (ad 5) 4, zL la lt lf fl, zA (kk 0) lt 20 tw_22, zA (kk 0) lf 20 fx] := hD
      refine lv_aload_n hx hb dX0_isPlayed_90 rfl (lv_at hl 2 rfl) ?_
      refine lv_iload hx hb dX0_isPlayed_91 (lv_at hl 0 rfl) ?_
      refine lv_iload_n hx hb dX0_isPlayed_93 rfl (lv_at hl 3 rfl) ?_
      have cut_102 : ∀ (f : Nat → Int32) (tw : Nat → Int32) (s1 : Int32), wpX0_isPlayed_102 p1 p2 Q  f tw s1 → ∀ (H : Heap) (locs : List Loc), va_P D vwCl [zO ad f g, zQ (kk 4) (ad 1) 4 (zKf ad), zJ (ad 2) 1, zJ (ad 3) 2, zJ (ad 4) 3, zJ (ad 5) 4, zL la lt lf fl, zA (kk 0) lt 20 tw, zA (kk 0) lf 20 fx] H → va_D A [zO ad f g, zQ (kk 4) (ad 1) 4 (zKf ad), zJ (ad 2) 1, zJ (ad 3) 2, zJ (ad 4) 3, zJ (ad 5) 4, zL la lt lf fl, zA (kk 0) lt 20 tw, zA (kk 0) lf 20 fx] → va_S A s.heap H locs → ∀ ls : Array Slot, lv_has ls 5 [] → W p l e { frames := 5, cells := 0, slots := 0, locals := 113 } s m ([.ref (ad 0), .ref la, .int p1, .int p2] : List Value).toArray below meth c H locs 0 0 (MQ below (va_Qv (fun (u : (Nat → Int32) × (Nat → Int32)) => Q u.1 u.2) (zB D A (fun u : (Nat → Int32) × (Nat → Int32) => [zO ad u.1 g, zQ (kk 4) (ad 1) 4 (zKf ad), zJ (ad 2) 1, zJ (ad 3) 2, zJ (ad 4) 3, zJ (ad 5) 4, zL la lt lf fl, zA (kk 0) lt 20 u.2, zA (kk 0) lf 20 fx])) A) ([.ref (ad 0), .ref la, .int p1, .int p2] : List Value).toArray s 0 0 A) (F0 m 102 ls [.int s1, .ref la]) := by
        intro f tw s1 h H locs hP hD hS ls hl
        unfold wpX0_isPlayed_102 at h
        refine lv_iconst (v := (1 : Int32)) hx hb dX0_isPlayed_102 (by decide) ?_
        refine lv_iconst (v := (-1 : Int32)) hx hb dX0_isPlayed_103 (by decide) ?_
        refine lv_bipush (v := (20 : Int32)) hx hb dX0_isPlayed_104 (by decide) ?_
        have hrc := va_recv hK hP (ci := 5) (q0 := 6) rfl rfl
        refine zc_v (wc := [zL la lt lf fl, zA (kk 0) lt 20 tw, zA (kk 0) lf 20 fx]) (wr := [zO ad f g, zQ (kk 4) (ad 1) 4 (zKf ad), zJ (ad 2) 1, zJ (ad 3) 2, zJ (ad 4) 3, zJ (ad 5) 4]) (w1 := (fun u : (Nat → Int32) => [zL la lt lf fl, zA (kk 0) lt 20 u, zA (kk 0) lf 20 fx])) (rest := []) [6, 7, 8] [0, 1, 2, 3, 4, 5] rfl rfl (by decide) (by decide) (by decide) hA hP hD hS (fun hP hD => va_runV (As := [.int s1, .int (1 : Int32), .int (-1 : Int32), .int (20 : Int32)]) (rest := []) ⟨hx, hb, hml, hown, hts⟩ (metX5_grows l D kk la lt lf _ fl tw fx s1 (1 : Int32) (-1 : Int32) (20 : Int32) _ h) (cwV 4 hts (lw_V q619 q620 q621 q69 q622) rfl rfl rfl pdX5_grows ⟨(Nat.le_of_ble_eq_true rfl), (Nat.le_of_ble_eq_true rfl)⟩) (zp_V hK hN hrc hP hD) rfl rfl hl.1 rfl (lv_room (Nat.le_of_ble_eq_true rfl)) dX0_isPlayed_106 ⟨(Nat.le_of_ble_eq_true rfl), (Nat.le_of_ble_eq_true rfl)⟩) (fun u H locs h hP hD hS => ?_)
        obtain ⟨tw_24, rfl⟩ : ∃ z, z = u := ⟨_, rfl⟩
        try dsimp only at h
        have hP : va_P D vwCl [zO ad f g, zQ (kk 4) (ad 1) 4 (zKf ad), zJ (ad 2) 1, zJ (ad 3) 2, zJ (ad 4) 3, zJ (ad 5) 4, zL la lt lf fl, zA (kk 0) lt 20 tw_24, zA (kk 0) lf 20 fx] H := hP
        have hD : va_D A [zO ad f g, zQ (kk 4) (ad 1) 4 (zKf ad), zJ (ad 2) 1, zJ (ad 3) 2, zJ (ad 4) 3, zJ (ad 5) 4, zL la lt lf fl, zA (kk 0) lt 20 tw_24, zA (kk 0) lf 20 fx] := hD
        exact zr_v hx hb hr hlk hP hD hS (f, tw_24) [0, 1, 2, 3, 4, 5, 6, 7, 8] rfl (by decide) dX0_isPlayed_109 h
      refine lv_icmp_ne (tgt := 101) hx hb dX0_isPlayed_94 (by decide) (fun c_25 => ?_) (fun c_25 => ?_)
      · have h := h.2 c_25
        refine lv_iload_n hx hb dX0_isPlayed_101 rfl (lv_at hl 3 rfl) ?_
        exact cut_102 (upd (upd (upd f 10 r_1) 7 ((f 7) + (1 : Int32))) 9 v_3) tw_22 p1 h _ _ hP hD hS _ (lv_sub hl [] rfl)
      · have h := h.1 c_25
        refine lv_iload_n hx hb dX0_isPlayed_97 rfl (lv_at hl 4 rfl) ?_
        refine lv_goto (tgt := 102) hx hb dX0_isPlayed_98 (by decide) ?_
        exact cut_102 (upd (upd (upd f 10 r_1) 7 ((f 7) + (1 : Int32))) 9 v_3) tw_22 p2 h _ _ hP hD hS _ (lv_sub hl [] rfl)
    · have h := h.2.2.2 c_7
      rw [show va_rf (zKf ad r_6.toNatClampNeg) = .ref (ad 5) from by rw [c_7]; rfl]
      have hrc := va_recv hK hP (ci := 4) (q0 := 5) rfl rfl
      refine zc_i (wc := [zJ (ad 5) 4]) (wr := [zO ad (upd (upd (upd f 10 r_1) 7 ((f 7) + (1 : Int32))) 9 v_3) g, zQ (kk 4) (ad 1) 4 (zKf ad), zJ (ad 2) 1, zJ (ad 3) 2, zJ (ad 4) 3, zL la lt lf fl, zA (kk 0) lt 20 tw_5, zA (kk 0) lf 20 fx]) (w1 := (fun u : Unit => [zJ (ad 5) 4])) (rest := [.int (1 : Int32), .int r_1, .ref la]) [5] [0, 1, 2, 3, 4, 6, 7, 8] rfl rfl (by decide) (by decide) (by decide) hA hP hD hS (fun hP hD => va_runU (As := []) (rest := [.int (1 : Int32), .int r_1, .ref la]) ⟨hx, hb, hml, hown, hts⟩ (metX4_trains l D kk (ad 5) _ _ h) (va_cwO (owner := "LoseLeague$Plain") 0 hts (lw_O q627 q630 q628 q631 q632 q68 q633) rfl rfl rfl q642 pdX1_trains.2 ⟨(Nat.le_of_ble_eq_true rfl), (Nat.le_of_ble_eq_true rfl)⟩) (zp_V hK hN hrc hP hD) rfl rfl hl.1 rfl (lv_room (Nat.le_of_ble_eq_true rfl)) dX0_isPlayed_82 ⟨(Nat.le_of_ble_eq_true rfl), (Nat.le_of_ble_eq_true rfl)⟩) (fun r_26 u H locs h hP hD hS => ?_)
      try dsimp only at h
      have hP : va_P D vwCl [zO ad (upd (upd (upd f 10 r_1) 7 ((f 7) + (1 : Int32))) 9 v_3) g, zQ (kk 4) (ad 1) 4 (zKf ad), zJ (ad 2) 1, zJ (ad 3) 2, zJ (ad 4) 3, zL la lt lf fl, zA (kk 0) lt 20 tw_5, zA (kk 0) lf 20 fx, zJ (ad 5) 4] H := hP
      have hD : va_D A [zO ad (upd (upd (upd f 10 r_1) 7 ((f 7) + (1 : Int32))) 9 v_3) g, zQ (kk 4) (ad 1) 4 (zKf ad), zJ (ad 2) 1, zJ (ad 3) 2, zJ (ad 4) 3, zL la lt lf fl, zA (kk 0) lt 20 tw_5, zA (kk 0) lf 20 fx, zJ (ad 5) 4] := hD
      refine lv_bipush (v := (20 : Int32)) hx hb dX0_isPlayed_85 (by decide) ?_
      have hrc := va_recv hK hP (ci := 5) (q0 := 5) rfl rfl
      refine zc_v (wc := [zL la lt lf fl, zA (kk 0) lt 20 tw_5, zA (kk 0) lf 20 fx]) (wr := [zO ad (upd (upd (upd f 10 r_1) 7 ((f 7) + (1 : Int32))) 9 v_3) g, zQ (kk 4) (ad 1) 4 (zKf ad), zJ (ad 2) 1, zJ (ad 3) 2, zJ (ad 4) 3, zJ (ad 5) 4]) (w1 := (fun u : (Nat → Int32) => [zL la lt lf fl, zA (kk 0) lt 20 u, zA (kk 0) lf 20 fx])) (rest := []) [5, 6, 7] [0, 1, 2, 3, 4, 8] rfl rfl (by decide) (by decide) (by decide) hA hP hD hS (fun hP hD => va_runV (As := [.int r_1, .int (1 : Int32), .int r_26, .int (20 : Int32)]) (rest := []) ⟨hx, hb, hml, hown, hts⟩ (metX5_grows l D kk la lt lf _ fl tw_5 fx r_1 (1 : Int32) r_26 (20 : Int32) _ h) (cwV 4 hts (lw_V q619 q620 q621 q69 q622) rfl rfl rfl pdX5_grows ⟨(Nat.le_of_ble_eq_true rfl), (Nat.le_of_ble_eq_true rfl)⟩) (zp_V hK hN hrc hP hD) rfl rfl hl.1 rfl (lv_room (Nat.le_of_ble_eq_true rfl)) dX0_isPlayed_87 ⟨(Nat.le_of_ble_eq_true rfl), (Nat.le_of_ble_eq_true rfl)⟩) (fun u H locs h hP hD hS => ?_)
      obtain ⟨tw_28, rfl⟩ : ∃ z, z = u := ⟨_, rfl⟩
      try dsimp only at h
      have hP : va_P D vwCl [zO ad (upd (upd (upd f 10 r_1) 7 ((f 7) + (1 : Int32))) 9 v_3) g, zQ (kk 4) (ad 1) 4 (zKf ad), zJ (ad 2) 1, zJ (ad 3) 2, zJ (ad 4) 3, zJ (ad 5) 4, zL la lt lf fl, zA (kk 0) lt 20 tw_28, zA (kk 0) lf 20 fx] H := hP
      have hD : va_D A [zO ad (upd (upd (upd f 10 r_1) 7 ((f 7) + (1 : Int32))) 9 v_3) g, zQ (kk 4) (ad 1) 4 (zKf ad), zJ (ad 2) 1, zJ (ad 3) 2, zJ (ad 4) 3, zJ (ad 5) 4, zL la lt lf fl, zA (kk 0) lt 20 tw_28, zA (kk 0) lf 20 fx] := hD
      refine lv_aload_n hx hb dX0_isPlayed_90 rfl (lv_at hl 2 rfl) ?_
      refine lv_iload hx hb dX0_isPlayed_91 (lv_at hl 0 rfl) ?_
      refine lv_iload_n hx hb dX0_isPlayed_93 rfl (lv_at hl 3 rfl) ?_
      have cut_102 : ∀ (f : Nat → Int32) (tw : Nat → Int32) (s1 : Int32), wpX0_isPlayed_102 p1 p2 Q  f tw s1 → ∀ (H : Heap) (locs : List Loc), va_P D vwCl [zO ad f g, zQ (kk 4) (ad 1) 4 (zKf ad), zJ (ad 2) 1, zJ (ad 3) 2, zJ (ad 4) 3, zJ (ad 5) 4, zL la lt lf fl, zA (kk 0) lt 20 tw, zA (kk 0) lf 20 fx] H → va_D A [zO ad f g, zQ (kk 4) (ad 1) 4 (zKf ad), zJ (ad 2) 1, zJ (ad 3) 2, zJ (ad 4) 3, zJ (ad 5) 4, zL la lt lf fl, zA (kk 0) lt 20 tw, zA (kk 0) lf 20 fx] → va_S A s.heap H locs → ∀ ls : Array Slot, lv_has ls 5 [] → W p l e { frames := 5, cells := 0, slots := 0, locals := 113 } s m ([.ref (ad 0), .ref la, .int p1, .int p2] : List Value).toArray below meth c H locs 0 0 (MQ below (va_Qv (fun (u : (Nat → Int32) × (Nat → Int32)) => Q u.1 u.2) (zB D A (fun u : (Nat → Int32) × (Nat → Int32) => [zO ad u.1 g, zQ (kk 4) (ad 1) 4 (zKf ad), zJ (ad 2) 1, zJ (ad 3) 2, zJ (ad 4) 3, zJ (ad 5) 4, zL la lt lf fl, zA (kk 0) lt 20 u.2, zA (kk 0) lf 20 fx])) A) ([.ref (ad 0), .ref la, .int p1, .int p2] : List Value).toArray s 0 0 A) (F0 m 102 ls [.int s1, .ref la]) := by
        intro f tw s1 h H locs hP hD hS ls hl
        unfold wpX0_isPlayed_102 at h
        refine lv_iconst (v := (1 : Int32)) hx hb dX0_isPlayed_102 (by decide) ?_
        refine lv_iconst (v := (-1 : Int32)) hx hb dX0_isPlayed_103 (by decide) ?_
        refine lv_bipush (v := (20 : Int32)) hx hb dX0_isPlayed_104 (by decide) ?_
        have hrc := va_recv hK hP (ci := 5) (q0 := 6) rfl rfl
        refine zc_v (wc := [zL la lt lf fl, zA (kk 0) lt 20 tw, zA (kk 0) lf 20 fx]) (wr := [zO ad f g, zQ (kk 4) (ad 1) 4 (zKf ad), zJ (ad 2) 1, zJ (ad 3) 2, zJ (ad 4) 3, zJ (ad 5) 4]) (w1 := (fun u : (Nat → Int32) => [zL la lt lf fl, zA (kk 0) lt 20 u, zA (kk 0) lf 20 fx])) (rest := []) [6, 7, 8] [0, 1, 2, 3, 4, 5] rfl rfl (by decide) (by decide) (by decide) hA hP hD hS (fun hP hD => va_runV (As := [.int s1, .int (1 : Int32), .int (-1 : Int32), .int (20 : Int32)]) (rest := []) ⟨hx, hb, hml, hown, hts⟩ (metX5_grows l D kk la lt lf _ fl tw fx s1 (1 : Int32) (-1 : Int32) (20 : Int32) _ h) (cwV 4 hts (lw_V q619 q620 q621 q69 q622) rfl rfl rfl pdX5_grows ⟨(Nat.le_of_ble_eq_true rfl), (Nat.le_of_ble_eq_true rfl)⟩) (zp_V hK hN hrc hP hD) rfl rfl hl.1 rfl (lv_room (Nat.le_of_ble_eq_true rfl)) dX0_isPlayed_106 ⟨(Nat.le_of_ble_eq_true rfl), (Nat.le_of_ble_eq_true rfl)⟩) (fun u H locs h hP hD hS => ?_)
        obtain ⟨tw_30, rfl⟩ : ∃ z, z = u := ⟨_, rfl⟩
        try dsimp only at h
        have hP : va_P D vwCl [zO ad f g, zQ (kk 4) (ad 1) 4 (zKf ad), zJ (ad 2) 1, zJ (ad 3) 2, zJ (ad 4) 3, zJ (ad 5) 4, zL la lt lf fl, zA (kk 0) lt 20 tw_30, zA (kk 0) lf 20 fx] H := hP
        have hD : va_D A [zO ad f g, zQ (kk 4) (ad 1) 4 (zKf ad), zJ (ad 2) 1, zJ (ad 3) 2, zJ (ad 4) 3, zJ (ad 5) 4, zL la lt lf fl, zA (kk 0) lt 20 tw_30, zA (kk 0) lf 20 fx] := hD
        exact zr_v hx hb hr hlk hP hD hS (f, tw_30) [0, 1, 2, 3, 4, 5, 6, 7, 8] rfl (by decide) dX0_isPlayed_109 h
      refine lv_icmp_ne (tgt := 101) hx hb dX0_isPlayed_94 (by decide) (fun c_31 => ?_) (fun c_31 => ?_)
      · have h := h.2 c_31
        refine lv_iload_n hx hb dX0_isPlayed_101 rfl (lv_at hl 3 rfl) ?_
        exact cut_102 (upd (upd (upd f 10 r_1) 7 ((f 7) + (1 : Int32))) 9 v_3) tw_28 p1 h _ _ hP hD hS _ (lv_sub hl [] rfl)
      · have h := h.1 c_31
        refine lv_iload_n hx hb dX0_isPlayed_97 rfl (lv_at hl 4 rfl) ?_
        refine lv_goto (tgt := 102) hx hb dX0_isPlayed_98 (by decide) ?_
        exact cut_102 (upd (upd (upd f 10 r_1) 7 ((f 7) + (1 : Int32))) 9 v_3) tw_28 p2 h _ _ hP hD hS _ (lv_sub hl [] rfl)
  · have h := h.1 c_2
    refine lv_aload_n hx hb dX0_isPlayed_22 rfl (lv_at hl 1 rfl) ?_
    refine lv_dup hx hb dX0_isPlayed_23 rfl ?_
    refine va_get (D := D) (ci := 0) (v := .int (f 8)) (C := RX0) (T := TX0) (N := 25) hx hb hts in_X0 hown hK hP 0 rfl rfl 8 (Nat.le_of_ble_eq_true rfl) (hts _ q180) (fun _ h9 => h9) rfl dX0_isPlayed_24 ?_
    refine lv_iconst (v := (1 : Int32)) hx hb dX0_isPlayed_27 (by decide) ?_
    refine lv_iadd hx hb dX0_isPlayed_28 ?_
    refine va_put (D := D) (ci := 0) (v := .int ((f 8) + (1 : Int32))) (C := RX0) (T := TX0) (N := 25) hx hb hts in_X0 tyX0 tyX0_ok nmX0 hown hK hP hD hS 0 rfl rfl 8 (Nat.le_of_ble_eq_true rfl) (hts _ q180) (fun _ h9 => h9) rfl (tyX0_ok 8 (Nat.le_of_ble_eq_true rfl)) rfl rfl (Nat.le_of_ble_eq_true rfl) dX0_isPlayed_29 (fun H locs hP hD hS => ?_)
    have hP : va_P D vwCl [zO ad (upd (upd f 10 r_1) 8 ((f 8) + (1 : Int32))) g, zQ (kk 4) (ad 1) 4 (zKf ad), zJ (ad 2) 1, zJ (ad 3) 2, zJ (ad 4) 3, zJ (ad 5) 4, zL la lt lf fl, zA (kk 0) lt 20 tw, zA (kk 0) lf 20 fx] H := hP
    have hD : va_D A [zO ad (upd (upd f 10 r_1) 8 ((f 8) + (1 : Int32))) g, zQ (kk 4) (ad 1) 4 (zKf ad), zJ (ad 2) 1, zJ (ad 3) 2, zJ (ad 4) 3, zJ (ad 5) 4, zL la lt lf fl, zA (kk 0) lt 20 tw, zA (kk 0) lf 20 fx] := hD
    exact zr_v hx hb hr hlk hP hD hS ((upd (upd f 10 r_1) 8 ((f 8) + (1 : Int32))), tw) [0, 1, 2, 3, 4, 5, 6, 7, 8] rfl (by decide) dX0_isPlayed_32 h
def wpX0_weekEnds_24 (Q : (Nat → Int32) → (Nat → Int32) → Prop) (fl : Nat → Int32) (tw : Nat → Int32) : Prop :=
  Q (upd fl 4 ((fl 4) + (1 : Int32))) tw
def wpX0_weekEnds (fl : Nat → Int32) (tw : Nat → Int32) (Q : (Nat → Int32) → (Nat → Int32) → Prop) : Prop :=
  (((fl 2) ≤ 0 → wpX0_weekEnds_24  Q  fl tw) ∧ (¬ (fl 2) ≤ 0 → (wpX5_next fl (fun r_2 => ((r_2 = ((fl 2) - (1 : Int32)) → (wpX5_isOver fl tw (fun tw_5 => wpX0_weekEnds_24  Q  fl tw_5))) ∧ (¬ r_2 = ((fl 2) - (1 : Int32)) → wpX0_weekEnds_24  Q  fl tw))))))
set_option maxHeartbeats 4000000 in
theorem metX0_weekEnds (l : Launch) (D : va_G) (kk : Nat → ClassId) (la : Nat) (lt : Nat) (lf : Nat) (th : Nat) (sz : Nat) (fl : Nat → Int32) (tw : Nat → Int32) (fx : Nat → Int32) (Q : (Nat → Int32) → (Nat → Int32) → Prop) (h : wpX0_weekEnds fl tw Q) : Met l yX0_weekEnds (ws_ yX0_weekEnds cX0_weekEnds 2 none) { frames := 3, cells := 0, slots := 0, locals := 68 } (va_Pc ([.ref th, .ref la] : List Value) (zPc D kk [zL la lt lf fl, zA (kk 0) lt 20 tw, zA (kk 0) lf 20 fx] sz)) (va_Qv (fun (u : (Nat → Int32) × (Nat → Int32)) => Q u.1 u.2) (zB D (va_A [zL la lt lf fl, zA (kk 0) lt 20 tw, zA (kk 0) lf 20 fx] sz) (fun u : (Nat → Int32) × (Nat → Int32) => [zL la lt lf u.1, zA (kk 0) lt 20 u.2, zA (kk 0) lf 20 fx])) (va_A [zL la lt lf fl, zA (kk 0) lt 20 tw, zA (kk 0) lf 20 fx] sz)) 0 0 (va_A [zL la lt lf fl, zA (kk 0) lt 20 tw, zA (kk 0) lf 20 fx] sz) := by
  refine zMet (Qc := fun A => va_Qv (fun (u : (Nat → Int32) × (Nat → Int32)) => Q u.1 u.2) (zB D A (fun u : (Nat → Int32) × (Nat → Int32) => [zL la lt lf u.1, zA (kk 0) lt 20 u.2, zA (kk 0) lf 20 fx])) A) (by decide) (Nat.le_of_ble_eq_true rfl) ?_
  intro p e s m below meth c A X hP hD hS ls hl
  obtain ⟨hx, hb, hr, hml, hown, hts, hlk, hnm, hK, hN, hA⟩ := X
  have hown : s.vm.findClass "LoseLeague" = some m.cls := hown
  have hl : lv_has ls 2 [(0, .ref th), (1, .ref la)] := hl
  unfold wpX0_weekEnds at h
  refine lv_aload_n hx hb dX0_weekEnds_0 rfl (lv_at hl 1 rfl) ?_
  refine va_getN (D := D) (ci := 5) (v := .int (fl 2)) (C := RX5) (T := TX5) (N := 6) hx hb hts in_X5 hown hK hP 0 rfl rfl 2 (Nat.le_of_ble_eq_true rfl) (zN_f hN 2 rfl rfl) (fun _ h9 => h9) rfl dX0_weekEnds_1 ?_
  have cut_24 : ∀ (fl : Nat → Int32) (tw : Nat → Int32), wpX0_weekEnds_24  Q  fl tw → ∀ (H : Heap) (locs : List Loc), va_P D vwCl [zL la lt lf fl, zA (kk 0) lt 20 tw, zA (kk 0) lf 20 fx] H → va_D A [zL la lt lf fl, zA (kk 0) lt 20 tw, zA (kk 0) lf 20 fx] → va_S A s.heap H locs → ∀ ls : Array Slot, lv_has ls 2 [(1, .ref la)] → W p l e { frames := 3, cells := 0, slots := 0, locals := 68 } s m ([.ref th, .ref la] : List Value).toArray below meth c H locs 0 0 (MQ below (va_Qv (fun (u : (Nat → Int32) × (Nat → Int32)) => Q u.1 u.2) (zB D A (fun u : (Nat → Int32) × (Nat → Int32) => [zL la lt lf u.1, zA (kk 0) lt 20 u.2, zA (kk 0) lf 20 fx])) A) ([.ref th, .ref la] : List Value).toArray s 0 0 A) (F0 m 24 ls []) := by
    intro fl tw h H locs hP hD hS ls hl
    unfold wpX0_weekEnds_24 at h
    refine lv_aload_n hx hb dX0_weekEnds_24 rfl (lv_at hl 0 rfl) ?_
    refine lv_dup hx hb dX0_weekEnds_25 rfl ?_
    refine va_getN (D := D) (ci := 5) (v := .int (fl 4)) (C := RX5) (T := TX5) (N := 6) hx hb hts in_X5 hown hK hP 0 rfl rfl 4 (Nat.le_of_ble_eq_true rfl) (zN_f hN 5 rfl rfl) (fun _ h9 => h9) rfl dX0_weekEnds_26 ?_
    refine lv_iconst (v := (1 : Int32)) hx hb dX0_weekEnds_29 (by decide) ?_
    refine lv_iadd hx hb dX0_weekEnds_30 ?_
    refine va_putN (D := D) (ci := 5) (v := .int ((fl 4) + (1 : Int32))) (C := RX5) (T := TX5) (N := 6) hx hb hts in_X5 tyX5 tyX5_ok nmX5 hown hK hP hD hS 0 rfl rfl 4 (Nat.le_of_ble_eq_true rfl) (zN_f hN 5 rfl rfl) (fun _ h9 => h9) rfl (tyX5_ok 4 (Nat.le_of_ble_eq_true rfl)) rfl rfl (Nat.le_of_ble_eq_true rfl) dX0_weekEnds_31 (fun H locs hP hD hS => ?_)
    have hP : va_P D vwCl [zL la lt lf (upd fl 4 ((fl 4) + (1 : Int32))), zA (kk 0) lt 20 tw, zA (kk 0) lf 20 fx] H := hP
    have hD : va_D A [zL la lt lf (upd fl 4 ((fl 4) + (1 : Int32))), zA (kk 0) lt 20 tw, zA (kk 0) lf 20 fx] := hD
    exact zr_v hx hb hr hlk hP hD hS ((upd fl 4 ((fl 4) + (1 : Int32))), tw) [0, 1, 2] rfl (by decide) dX0_weekEnds_34 h
  refine lv_if_le (tgt := 24) hx hb dX0_weekEnds_4 (by decide) (fun c_1 => ?_) (fun c_1 => ?_)
  · have h := h.1 c_1
    exact cut_24 fl tw h _ _ hP hD hS _ (lv_sub hl [1] rfl)
  · have h := h.2 c_1
    refine lv_aload_n hx hb dX0_weekEnds_7 rfl (lv_at hl 1 rfl) ?_
    have hrc := va_recv hK hP (ci := 5) (q0 := 0) rfl rfl
    refine zc_i (wc := [zL la lt lf fl, zA (kk 0) lt 20 tw, zA (kk 0) lf 20 fx]) (wr := []) (w1 := (fun u : Unit => [zL la lt lf fl, zA (kk 0) lt 20 tw, zA (kk 0) lf 20 fx])) (rest := []) [0, 1, 2] [] rfl rfl (by decide) (by decide) (by decide) hA hP hD hS (fun hP hD => va_runV (As := []) (rest := []) ⟨hx, hb, hml, hown, hts⟩ (metX5_next l D kk la lt lf _ fl tw fx _ h) (cwV 0 hts (lw_V q504 q505 q506 q69 q507) rfl rfl rfl pdX5_next ⟨(Nat.le_of_ble_eq_true rfl), (Nat.le_of_ble_eq_true rfl)⟩) (zp_V hK hN hrc hP hD) rfl rfl hl.1 rfl (lv_room (Nat.le_of_ble_eq_true rfl)) dX0_weekEnds_8 ⟨(Nat.le_of_ble_eq_true rfl), (Nat.le_of_ble_eq_true rfl)⟩) (fun r_2 u H locs h hP hD hS => ?_)
    try dsimp only at h
    have hP : va_P D vwCl [zL la lt lf fl, zA (kk 0) lt 20 tw, zA (kk 0) lf 20 fx] H := hP
    have hD : va_D A [zL la lt lf fl, zA (kk 0) lt 20 tw, zA (kk 0) lf 20 fx] := hD
    refine lv_aload_n hx hb dX0_weekEnds_11 rfl (lv_at hl 1 rfl) ?_
    refine va_getN (D := D) (ci := 5) (v := .int (fl 2)) (C := RX5) (T := TX5) (N := 6) hx hb hts in_X5 hown hK hP 0 rfl rfl 2 (Nat.le_of_ble_eq_true rfl) (zN_f hN 2 rfl rfl) (fun _ h9 => h9) rfl dX0_weekEnds_12 ?_
    refine lv_iconst (v := (1 : Int32)) hx hb dX0_weekEnds_15 (by decide) ?_
    refine lv_isub hx hb dX0_weekEnds_16 ?_
    refine lv_icmp_ne (tgt := 24) hx hb dX0_weekEnds_17 (by decide) (fun c_3 => ?_) (fun c_3 => ?_)
    · have h := h.2 c_3
      exact cut_24 fl tw h _ _ hP hD hS _ (lv_sub hl [1] rfl)
    · have h := h.1 c_3
      refine lv_aload_n hx hb dX0_weekEnds_20 rfl (lv_at hl 1 rfl) ?_
      have hrc := va_recv hK hP (ci := 5) (q0 := 0) rfl rfl
      refine zc_v (wc := [zL la lt lf fl, zA (kk 0) lt 20 tw, zA (kk 0) lf 20 fx]) (wr := []) (w1 := (fun u : (Nat → Int32) => [zL la lt lf fl, zA (kk 0) lt 20 u, zA (kk 0) lf 20 fx])) (rest := []) [0, 1, 2] [] rfl rfl (by decide) (by decide) (by decide) hA hP hD hS (fun hP hD => va_runV (As := []) (rest := []) ⟨hx, hb, hml, hown, hts⟩ (metX5_isOver l D kk la lt lf _ fl tw fx _ h) (cwV 0 hts (lw_V q647 q648 q649 q69 q650) rfl rfl rfl pdX5_isOver ⟨(Nat.le_of_ble_eq_true rfl), (Nat.le_of_ble_eq_true rfl)⟩) (zp_V hK hN hrc hP hD) rfl rfl hl.1 rfl (lv_room (Nat.le_of_ble_eq_true rfl)) dX0_weekEnds_21 ⟨(Nat.le_of_ble_eq_true rfl), (Nat.le_of_ble_eq_true rfl)⟩) (fun u H locs h hP hD hS => ?_)
      obtain ⟨tw_5, rfl⟩ : ∃ z, z = u := ⟨_, rfl⟩
      try dsimp only at h
      have hP : va_P D vwCl [zL la lt lf fl, zA (kk 0) lt 20 tw_5, zA (kk 0) lf 20 fx] H := hP
      have hD : va_D A [zL la lt lf fl, zA (kk 0) lt 20 tw_5, zA (kk 0) lf 20 fx] := hD
      exact cut_24 fl tw_5 h _ _ hP hD hS _ (lv_sub hl [1] rfl)
def wpX0_weekGoes_52 (fx : Nat → Int32) (p1 : Int32) (Q : (Nat → Int32) → (Nat → Int32) → (Nat → Int32) → Prop) (f : Nat → Int32) (fl : Nat → Int32) (tw : Nat → Int32) : Prop :=
  (wpX0_weekEnds fl tw (fun fl_3 tw_4 => Q f fl_3 tw_4))
def wpX0_weekGoes (f : Nat → Int32) (fl : Nat → Int32) (tw : Nat → Int32) (fx : Nat → Int32) (p1 : Int32) (Q : (Nat → Int32) → (Nat → Int32) → (Nat → Int32) → Prop) : Prop :=
  (wpX5_next fl (fun r_1 => ((r_1 = (-4 : Int32) → wpX0_weekGoes_52 fx p1 Q  (upd f 10 (-4 : Int32)) fl tw) ∧ (¬ r_1 = (-4 : Int32) → ((r_1 = (fl 5) → wpX0_weekGoes_52 fx p1 Q  (upd f 10 (-4 : Int32)) fl tw) ∧ (¬ r_1 = (fl 5) → ((p1 = 0 → (vp_in ((2 : Int32) * r_1) 20 ∧ (vp_in (((2 : Int32) * r_1) + (1 : Int32)) 20 ∧ (wpX0_isPlayed (upd f 10 (-4 : Int32)) tw (fx ((2 : Int32) * r_1).toNatClampNeg) (fx (((2 : Int32) * r_1) + (1 : Int32)).toNatClampNeg) (fun f_9 tw_10 => wpX0_weekGoes_52 fx p1 Q  f_9 fl tw_10))))) ∧ (¬ p1 = 0 → wpX0_weekGoes_52 fx p1 Q  (upd f 10 (-4 : Int32)) fl tw))))))))
set_option maxHeartbeats 4000000 in
theorem metX0_weekGoes (l : Launch) (D : va_G) (kk : Nat → ClassId) (ad : Nat → Nat) (la : Nat) (lt : Nat) (lf : Nat) (sz : Nat) (f : Nat → Int32) (g : Nat → Int64) (fl : Nat → Int32) (tw : Nat → Int32) (fx : Nat → Int32) (p1 : Int32) (Q : (Nat → Int32) → (Nat → Int32) → (Nat → Int32) → Prop) (h : wpX0_weekGoes f fl tw fx p1 Q) : Met l yX0_weekGoes (ws_ yX0_weekGoes cX0_weekGoes 4 none) { frames := 6, cells := 0, slots := 0, locals := 137 } (va_Pc ([.ref (ad 0), .ref la, .int p1] : List Value) (zPc D kk [zO ad f g, zQ (kk 4) (ad 1) 4 (zKf ad), zJ (ad 2) 1, zJ (ad 3) 2, zJ (ad 4) 3, zJ (ad 5) 4, zL la lt lf fl, zA (kk 0) lt 20 tw, zA (kk 0) lf 20 fx] sz)) (va_Qv (fun (u : (Nat → Int32) × (Nat → Int32) × (Nat → Int32)) => Q u.1 u.2.1 u.2.2) (zB D (va_A [zO ad f g, zQ (kk 4) (ad 1) 4 (zKf ad), zJ (ad 2) 1, zJ (ad 3) 2, zJ (ad 4) 3, zJ (ad 5) 4, zL la lt lf fl, zA (kk 0) lt 20 tw, zA (kk 0) lf 20 fx] sz) (fun u : (Nat → Int32) × (Nat → Int32) × (Nat → Int32) => [zO ad u.1 g, zQ (kk 4) (ad 1) 4 (zKf ad), zJ (ad 2) 1, zJ (ad 3) 2, zJ (ad 4) 3, zJ (ad 5) 4, zL la lt lf u.2.1, zA (kk 0) lt 20 u.2.2, zA (kk 0) lf 20 fx])) (va_A [zO ad f g, zQ (kk 4) (ad 1) 4 (zKf ad), zJ (ad 2) 1, zJ (ad 3) 2, zJ (ad 4) 3, zJ (ad 5) 4, zL la lt lf fl, zA (kk 0) lt 20 tw, zA (kk 0) lf 20 fx] sz)) 0 0 (va_A [zO ad f g, zQ (kk 4) (ad 1) 4 (zKf ad), zJ (ad 2) 1, zJ (ad 3) 2, zJ (ad 4) 3, zJ (ad 5) 4, zL la lt lf fl, zA (kk 0) lt 20 tw, zA (kk 0) lf 20 fx] sz) := by
  refine zMet (Qc := fun A => va_Qv (fun (u : (Nat → Int32) × (Nat → Int32) × (Nat → Int32)) => Q u.1 u.2.1 u.2.2) (zB D A (fun u : (Nat → Int32) × (Nat → Int32) × (Nat → Int32) => [zO ad u.1 g, zQ (kk 4) (ad 1) 4 (zKf ad), zJ (ad 2) 1, zJ (ad 3) 2, zJ (ad 4) 3, zJ (ad 5) 4, zL la lt lf u.2.1, zA (kk 0) lt 20 u.2.2, zA (kk 0) lf 20 fx])) A) (by decide) (Nat.le_of_ble_eq_true rfl) ?_
  intro p e s m below meth c A X hP hD hS ls hl
  obtain ⟨hx, hb, hr, hml, hown, hts, hlk, hnm, hK, hN, hA⟩ := X
  have hown : s.vm.findClass "LoseLeague" = some m.cls := hown
  have hl : lv_has ls 4 [(0, .ref (ad 0)), (1, .ref la), (2, .int p1)] := hl
  unfold wpX0_weekGoes at h
  refine lv_aload_n hx hb dX0_weekGoes_0 rfl (lv_at hl 1 rfl) ?_
  have hrc := va_recv hK hP (ci := 5) (q0 := 6) rfl rfl
  refine zc_i (wc := [zL la lt lf fl, zA (kk 0) lt 20 tw, zA (kk 0) lf 20 fx]) (wr := [zO ad f g, zQ (kk 4) (ad 1) 4 (zKf ad), zJ (ad 2) 1, zJ (ad 3) 2, zJ (ad 4) 3, zJ (ad 5) 4]) (w1 := (fun u : Unit => [zL la lt lf fl, zA (kk 0) lt 20 tw, zA (kk 0) lf 20 fx])) (rest := []) [6, 7, 8] [0, 1, 2, 3, 4, 5] rfl rfl (by decide) (by decide) (by decide) hA hP hD hS (fun hP hD => va_runV (As := []) (rest := []) ⟨hx, hb, hml, hown, hts⟩ (metX5_next l D kk la lt lf _ fl tw fx _ h) (cwV 0 hts (lw_V q504 q505 q506 q69 q507) rfl rfl rfl pdX5_next ⟨(Nat.le_of_ble_eq_true rfl), (Nat.le_of_ble_eq_true rfl)⟩) (zp_V hK hN hrc hP hD) rfl rfl hl.1 rfl (lv_room (Nat.le_of_ble_eq_true rfl)) dX0_weekGoes_1 ⟨(Nat.le_of_ble_eq_true rfl), (Nat.le_of_ble_eq_true rfl)⟩) (fun r_1 u H locs h hP hD hS => ?_)
  try dsimp only at h
  have hP : va_P D vwCl [zO ad f g, zQ (kk 4) (ad 1) 4 (zKf ad), zJ (ad 2) 1, zJ (ad 3) 2, zJ (ad 4) 3, zJ (ad 5) 4, zL la lt lf fl, zA (kk 0) lt 20 tw, zA (kk 0) lf 20 fx] H := hP
  have hD : va_D A [zO ad f g, zQ (kk 4) (ad 1) 4 (zKf ad), zJ (ad 2) 1, zJ (ad 3) 2, zJ (ad 4) 3, zJ (ad 5) 4, zL la lt lf fl, zA (kk 0) lt 20 tw, zA (kk 0) lf 20 fx] := hD
  refine lv_istore_n (lv' := [(3, .int r_1), (0, .ref (ad 0)), (1, .ref la), (2, .int p1)]) hx hb dX0_weekGoes_4 rfl hl (by decide) rfl (fun ls hl => ?_)
  refine lv_aload_n hx hb dX0_weekGoes_5 rfl (lv_at hl 1 rfl) ?_
  refine lv_bipush (v := (-4 : Int32)) hx hb dX0_weekGoes_6 (by decide) ?_
  refine va_put (D := D) (ci := 0) (v := .int (-4 : Int32)) (C := RX0) (T := TX0) (N := 25) hx hb hts in_X0 tyX0 tyX0_ok nmX0 hown hK hP hD hS 0 rfl rfl 10 (Nat.le_of_ble_eq_true rfl) (hts _ q182) (fun _ h9 => h9) rfl (tyX0_ok 10 (Nat.le_of_ble_eq_true rfl)) rfl rfl (Nat.le_of_ble_eq_true rfl) dX0_weekGoes_8 (fun H locs hP hD hS => ?_)
  have hP : va_P D vwCl [zO ad (upd f 10 (-4 : Int32)) g, zQ (kk 4) (ad 1) 4 (zKf ad), zJ (ad 2) 1, zJ (ad 3) 2, zJ (ad 4) 3, zJ (ad 5) 4, zL la lt lf fl, zA (kk 0) lt 20 tw, zA (kk 0) lf 20 fx] H := hP
  have hD : va_D A [zO ad (upd f 10 (-4 : Int32)) g, zQ (kk 4) (ad 1) 4 (zKf ad), zJ (ad 2) 1, zJ (ad 3) 2, zJ (ad 4) 3, zJ (ad 5) 4, zL la lt lf fl, zA (kk 0) lt 20 tw, zA (kk 0) lf 20 fx] := hD
  refine lv_iload_n hx hb dX0_weekGoes_11 rfl (lv_at hl 0 rfl) ?_
  refine lv_bipush (v := (-4 : Int32)) hx hb dX0_weekGoes_12 (by decide) ?_
  have cut_52 : ∀ (f : Nat → Int32) (fl : Nat → Int32) (tw : Nat → Int32), wpX0_weekGoes_52 fx p1 Q  f fl tw → ∀ (H : Heap) (locs : List Loc), va_P D vwCl [zO ad f g, zQ (kk 4) (ad 1) 4 (zKf ad), zJ (ad 2) 1, zJ (ad 3) 2, zJ (ad 4) 3, zJ (ad 5) 4, zL la lt lf fl, zA (kk 0) lt 20 tw, zA (kk 0) lf 20 fx] H → va_D A [zO ad f g, zQ (kk 4) (ad 1) 4 (zKf ad), zJ (ad 2) 1, zJ (ad 3) 2, zJ (ad 4) 3, zJ (ad 5) 4, zL la lt lf fl, zA (kk 0) lt 20 tw, zA (kk 0) lf 20 fx] → va_S A s.heap H locs → ∀ ls : Array Slot, lv_has ls 4 [(0, .ref (ad 0)), (1, .ref la)] → W p l e { frames := 6, cells := 0, slots := 0, locals := 137 } s m ([.ref (ad 0), .ref la, .int p1] : List Value).toArray below meth c H locs 0 0 (MQ below (va_Qv (fun (u : (Nat → Int32) × (Nat → Int32) × (Nat → Int32)) => Q u.1 u.2.1 u.2.2) (zB D A (fun u : (Nat → Int32) × (Nat → Int32) × (Nat → Int32) => [zO ad u.1 g, zQ (kk 4) (ad 1) 4 (zKf ad), zJ (ad 2) 1, zJ (ad 3) 2, zJ (ad 4) 3, zJ (ad 5) 4, zL la lt lf u.2.1, zA (kk 0) lt 20 u.2.2, zA (kk 0) lf 20 fx])) A) ([.ref (ad 0), .ref la, .int p1] : List Value).toArray s 0 0 A) (F0 m 52 ls []) := by
    intro f fl tw h H locs hP hD hS ls hl
    unfold wpX0_weekGoes_52 at h
    refine lv_aload_n hx hb dX0_weekGoes_52 rfl (lv_at hl 0 rfl) ?_
    refine lv_aload_n hx hb dX0_weekGoes_53 rfl (lv_at hl 1 rfl) ?_
    have hrc := va_recv hK hP (ci := 0) (q0 := 0) rfl rfl
    refine zc_v (wc := [zL la lt lf fl, zA (kk 0) lt 20 tw, zA (kk 0) lf 20 fx]) (wr := [zO ad f g, zQ (kk 4) (ad 1) 4 (zKf ad), zJ (ad 2) 1, zJ (ad 3) 2, zJ (ad 4) 3, zJ (ad 5) 4]) (w1 := (fun u : (Nat → Int32) × (Nat → Int32) => [zL la lt lf u.1, zA (kk 0) lt 20 u.2, zA (kk 0) lf 20 fx])) (rest := []) [6, 7, 8] [0, 1, 2, 3, 4, 5] rfl rfl (by decide) (by decide) (by decide) hA hP hD hS (fun hP hD => va_runV (As := [.ref la]) (rest := []) ⟨hx, hb, hml, hown, hts⟩ (metX0_weekEnds l D kk la lt lf (ad 0) _ fl tw fx _ h) (cwV 1 hts (lw_V q643 q645 qs19 q64 q646) rfl rfl rfl pdX0_weekEnds ⟨(Nat.le_of_ble_eq_true rfl), (Nat.le_of_ble_eq_true rfl)⟩) (zp_V hK hN hrc hP hD) rfl rfl hl.1 rfl (lv_room (Nat.le_of_ble_eq_true rfl)) dX0_weekGoes_54 ⟨(Nat.le_of_ble_eq_true rfl), (Nat.le_of_ble_eq_true rfl)⟩) (fun u H locs h hP hD hS => ?_)
    obtain ⟨fl_3, tw_4⟩ := u
    try dsimp only at h
    have hP : va_P D vwCl [zO ad f g, zQ (kk 4) (ad 1) 4 (zKf ad), zJ (ad 2) 1, zJ (ad 3) 2, zJ (ad 4) 3, zJ (ad 5) 4, zL la lt lf fl_3, zA (kk 0) lt 20 tw_4, zA (kk 0) lf 20 fx] H := hP
    have hD : va_D A [zO ad f g, zQ (kk 4) (ad 1) 4 (zKf ad), zJ (ad 2) 1, zJ (ad 3) 2, zJ (ad 4) 3, zJ (ad 5) 4, zL la lt lf fl_3, zA (kk 0) lt 20 tw_4, zA (kk 0) lf 20 fx] := hD
    exact zr_v hx hb hr hlk hP hD hS (f, fl_3, tw_4) [0, 1, 2, 3, 4, 5, 6, 7, 8] rfl (by decide) dX0_weekGoes_57 h
  refine lv_icmp_eq (tgt := 52) hx hb dX0_weekGoes_14 (by decide) (fun c_5 => ?_) (fun c_5 => ?_)
  · have h := h.1 c_5
    exact cut_52 (upd f 10 (-4 : Int32)) fl tw h _ _ hP hD hS _ (lv_sub hl [1, 2] rfl)
  · have h := h.2 c_5
    refine lv_iload_n hx hb dX0_weekGoes_17 rfl (lv_at hl 0 rfl) ?_
    refine lv_aload_n hx hb dX0_weekGoes_18 rfl (lv_at hl 2 rfl) ?_
    refine va_getN (D := D) (ci := 5) (v := .int (fl 5)) (C := RX5) (T := TX5) (N := 6) hx hb hts in_X5 hown hK hP 6 rfl rfl 5 (Nat.le_of_ble_eq_true rfl) (zN_f hN 6 rfl rfl) (fun _ h9 => h9) rfl dX0_weekGoes_19 ?_
    refine lv_icmp_eq (tgt := 52) hx hb dX0_weekGoes_22 (by decide) (fun c_6 => ?_) (fun c_6 => ?_)
    · have h := h.1 c_6
      exact cut_52 (upd f 10 (-4 : Int32)) fl tw h _ _ hP hD hS _ (lv_sub hl [1, 2] rfl)
    · have h := h.2 c_6
      refine lv_iload_n hx hb dX0_weekGoes_25 rfl (lv_at hl 3 rfl) ?_
      refine lv_if_ne (tgt := 52) hx hb dX0_weekGoes_26 (by decide) (fun c_7 => ?_) (fun c_7 => ?_)
      · have h := h.2 c_7
        exact cut_52 (upd f 10 (-4 : Int32)) fl tw h _ _ hP hD hS _ (lv_sub hl [1, 2] rfl)
      · have h := h.1 c_7
        refine lv_aload_n hx hb dX0_weekGoes_29 rfl (lv_at hl 1 rfl) ?_
        refine lv_aload_n hx hb dX0_weekGoes_30 rfl (lv_at hl 2 rfl) ?_
        refine lv_aload_n hx hb dX0_weekGoes_31 rfl (lv_at hl 2 rfl) ?_
        refine va_getN (D := D) (ci := 5) (v := .ref lf) (C := RX5) (T := TX5) (N := 6) hx hb hts in_X5 hown hK hP 6 rfl rfl 3 (Nat.le_of_ble_eq_true rfl) (zN_f hN 4 rfl rfl) (fun _ h9 => h9) rfl dX0_weekGoes_32 ?_
        refine lv_iconst (v := (2 : Int32)) hx hb dX0_weekGoes_35 (by decide) ?_
        refine lv_iload_n hx hb dX0_weekGoes_36 rfl (lv_at hl 0 rfl) ?_
        refine lv_imul hx hb dX0_weekGoes_37 ?_
        obtain ⟨hin, h⟩ := h
        refine va_bald hx hb hK hP 8 0 rfl rfl hin dX0_weekGoes_38 ?_
        refine lv_aload_n hx hb dX0_weekGoes_39 rfl (lv_at hl 2 rfl) ?_
        refine va_getN (D := D) (ci := 5) (v := .ref lf) (C := RX5) (T := TX5) (N := 6) hx hb hts in_X5 hown hK hP 6 rfl rfl 3 (Nat.le_of_ble_eq_true rfl) (zN_f hN 4 rfl rfl) (fun _ h9 => h9) rfl dX0_weekGoes_40 ?_
        refine lv_iconst (v := (2 : Int32)) hx hb dX0_weekGoes_43 (by decide) ?_
        refine lv_iload_n hx hb dX0_weekGoes_44 rfl (lv_at hl 0 rfl) ?_
        refine lv_imul hx hb dX0_weekGoes_45 ?_
        refine lv_iconst (v := (1 : Int32)) hx hb dX0_weekGoes_46 (by decide) ?_
        refine lv_iadd hx hb dX0_weekGoes_47 ?_
        obtain ⟨hin, h⟩ := h
        refine va_bald hx hb hK hP 8 0 rfl rfl hin dX0_weekGoes_48 ?_
        have hrc := va_recv hK hP (ci := 0) (q0 := 0) rfl rfl
        refine zc_v (wc := [zO ad (upd f 10 (-4 : Int32)) g, zQ (kk 4) (ad 1) 4 (zKf ad), zJ (ad 2) 1, zJ (ad 3) 2, zJ (ad 4) 3, zJ (ad 5) 4, zL la lt lf fl, zA (kk 0) lt 20 tw, zA (kk 0) lf 20 fx]) (wr := []) (w1 := (fun u : (Nat → Int32) × (Nat → Int32) => [zO ad u.1 g, zQ (kk 4) (ad 1) 4 (zKf ad), zJ (ad 2) 1, zJ (ad 3) 2, zJ (ad 4) 3, zJ (ad 5) 4, zL la lt lf fl, zA (kk 0) lt 20 u.2, zA (kk 0) lf 20 fx])) (rest := []) [0, 1, 2, 3, 4, 5, 6, 7, 8] [] rfl rfl (by decide) (by decide) (by decide) hA hP hD hS (fun hP hD => va_runV (As := [.ref la, .int (fx ((2 : Int32) * r_1).toNatClampNeg), .int (fx (((2 : Int32) * r_1) + (1 : Int32)).toNatClampNeg)]) (rest := []) ⟨hx, hb, hml, hown, hts⟩ (metX0_isPlayed l D kk ad la lt lf _ (upd f 10 (-4 : Int32)) g fl tw fx (fx ((2 : Int32) * r_1).toNatClampNeg) (fx (((2 : Int32) * r_1) + (1 : Int32)).toNatClampNeg) _ h) (cwV 3 hts (lw_V q615 q617 qs18 q64 q618) rfl rfl rfl pdX0_isPlayed ⟨(Nat.le_of_ble_eq_true rfl), (Nat.le_of_ble_eq_true rfl)⟩) (zp_V hK hN hrc hP hD) rfl rfl hl.1 rfl (lv_room (Nat.le_of_ble_eq_true rfl)) dX0_weekGoes_49 ⟨(Nat.le_of_ble_eq_true rfl), (Nat.le_of_ble_eq_true rfl)⟩) (fun u H locs h hP hD hS => ?_)
        obtain ⟨f_9, tw_10⟩ := u
        try dsimp only at h
        have hP : va_P D vwCl [zO ad f_9 g, zQ (kk 4) (ad 1) 4 (zKf ad), zJ (ad 2) 1, zJ (ad 3) 2, zJ (ad 4) 3, zJ (ad 5) 4, zL la lt lf fl, zA (kk 0) lt 20 tw_10, zA (kk 0) lf 20 fx] H := hP
        have hD : va_D A [zO ad f_9 g, zQ (kk 4) (ad 1) 4 (zKf ad), zJ (ad 2) 1, zJ (ad 3) 2, zJ (ad 4) 3, zJ (ad 5) 4, zL la lt lf fl, zA (kk 0) lt 20 tw_10, zA (kk 0) lf 20 fx] := hD
        exact cut_52 f_9 fl tw_10 h _ _ hP hD hS _ (lv_sub hl [1, 2] rfl)
def wbX0_weeksGo_6 (fx : Nat → Int32) (p1 : Int32) (Q : (Nat → Int32) → (Nat → Int32) → (Nat → Int32) → Prop) (k6 : (Nat → Int32) → (Nat → Int32) → (Nat → Int32) → Int32 → Prop) (f : Nat → Int32) (fl : Nat → Int32) (tw : Nat → Int32) (x3 : Int32) : Prop :=
  ((p1 ≤ x3 → Q f fl tw) ∧ (¬ p1 ≤ x3 → (wpX0_weekGoes f fl tw fx (0 : Int32) (fun f_5 fl_6 tw_7 => k6 f_5 fl_6 tw_7 (x3 + 1)))))
def wpX0_weeksGo_6 (fx : Nat → Int32) (p1 : Int32) (Q : (Nat → Int32) → (Nat → Int32) → (Nat → Int32) → Prop) (n : Nat) : (Nat → Int32) → (Nat → Int32) → (Nat → Int32) → Int32 → Prop :=
  Nat.rec (motive := fun _ => (Nat → Int32) → (Nat → Int32) → (Nat → Int32) → Int32 → Prop) (fun _ _ _ _ => False) (fun _ k => wbX0_weeksGo_6 fx p1 Q  k) n
def wpX0_weeksGo (f : Nat → Int32) (fl : Nat → Int32) (tw : Nat → Int32) (fx : Nat → Int32) (p1 : Int32) (Q : (Nat → Int32) → (Nat → Int32) → (Nat → Int32) → Prop) : Prop :=
  (wpX0_startsCounting f (fun f_2 => (∃ n : Nat, wpX0_weeksGo_6 fx p1 Q  n f_2 fl tw (0 : Int32))))
set_option maxHeartbeats 4000000 in
theorem metX0_weeksGo (l : Launch) (D : va_G) (kk : Nat → ClassId) (ad : Nat → Nat) (la : Nat) (lt : Nat) (lf : Nat) (sz : Nat) (f : Nat → Int32) (g : Nat → Int64) (fl : Nat → Int32) (tw : Nat → Int32) (fx : Nat → Int32) (p1 : Int32) (Q : (Nat → Int32) → (Nat → Int32) → (Nat → Int32) → Prop) (h : wpX0_weeksGo f fl tw fx p1 Q) : Met l yX0_weeksGo (ws_ yX0_weeksGo cX0_weeksGo 4 none) { frames := 7, cells := 0, slots := 0, locals := 160 } (va_Pc ([.ref (ad 0), .ref la, .int p1] : List Value) (zPc D kk [zO ad f g, zQ (kk 4) (ad 1) 4 (zKf ad), zJ (ad 2) 1, zJ (ad 3) 2, zJ (ad 4) 3, zJ (ad 5) 4, zL la lt lf fl, zA (kk 0) lt 20 tw, zA (kk 0) lf 20 fx] sz)) (va_Qv (fun (u : (Nat → Int32) × (Nat → Int32) × (Nat → Int32)) => Q u.1 u.2.1 u.2.2) (zB D (va_A [zO ad f g, zQ (kk 4) (ad 1) 4 (zKf ad), zJ (ad 2) 1, zJ (ad 3) 2, zJ (ad 4) 3, zJ (ad 5) 4, zL la lt lf fl, zA (kk 0) lt 20 tw, zA (kk 0) lf 20 fx] sz) (fun u : (Nat → Int32) × (Nat → Int32) × (Nat → Int32) => [zO ad u.1 g, zQ (kk 4) (ad 1) 4 (zKf ad), zJ (ad 2) 1, zJ (ad 3) 2, zJ (ad 4) 3, zJ (ad 5) 4, zL la lt lf u.2.1, zA (kk 0) lt 20 u.2.2, zA (kk 0) lf 20 fx])) (va_A [zO ad f g, zQ (kk 4) (ad 1) 4 (zKf ad), zJ (ad 2) 1, zJ (ad 3) 2, zJ (ad 4) 3, zJ (ad 5) 4, zL la lt lf fl, zA (kk 0) lt 20 tw, zA (kk 0) lf 20 fx] sz)) 0 0 (va_A [zO ad f g, zQ (kk 4) (ad 1) 4 (zKf ad), zJ (ad 2) 1, zJ (ad 3) 2, zJ (ad 4) 3, zJ (ad 5) 4, zL la lt lf fl, zA (kk 0) lt 20 tw, zA (kk 0) lf 20 fx] sz) := by
  refine zMet (Qc := fun A => va_Qv (fun (u : (Nat → Int32) × (Nat → Int32) × (Nat → Int32)) => Q u.1 u.2.1 u.2.2) (zB D A (fun u : (Nat → Int32) × (Nat → Int32) × (Nat → Int32) => [zO ad u.1 g, zQ (kk 4) (ad 1) 4 (zKf ad), zJ (ad 2) 1, zJ (ad 3) 2, zJ (ad 4) 3, zJ (ad 5) 4, zL la lt lf u.2.1, zA (kk 0) lt 20 u.2.2, zA (kk 0) lf 20 fx])) A) (by decide) (Nat.le_of_ble_eq_true rfl) ?_
  intro p e s m below meth c A X hP hD hS ls hl
  obtain ⟨hx, hb, hr, hml, hown, hts, hlk, hnm, hK, hN, hA⟩ := X
  have hown : s.vm.findClass "LoseLeague" = some m.cls := hown
  have hl : lv_has ls 4 [(0, .ref (ad 0)), (1, .ref la), (2, .int p1)] := hl
  unfold wpX0_weeksGo at h
  refine lv_aload_n hx hb dX0_weeksGo_0 rfl (lv_at hl 0 rfl) ?_
  have hrc := va_recv hK hP (ci := 0) (q0 := 0) rfl rfl
  refine zc_v (wc := [zO ad f g]) (wr := [zQ (kk 4) (ad 1) 4 (zKf ad), zJ (ad 2) 1, zJ (ad 3) 2, zJ (ad 4) 3, zJ (ad 5) 4, zL la lt lf fl, zA (kk 0) lt 20 tw, zA (kk 0) lf 20 fx]) (w1 := (fun u : (Nat → Int32) => [zO ad u g])) (rest := []) [0] [1, 2, 3, 4, 5, 6, 7, 8] rfl rfl (by decide) (by decide) (by decide) hA hP hD hS (fun hP hD => va_runV (As := []) (rest := []) ⟨hx, hb, hml, hown, hts⟩ (metX0_startsCounting l D kk ad _ f g _ h) (cwV 0 hts (lw_V q607 q609 qs16 q64 q610) rfl rfl rfl pdX0_startsCounting ⟨(Nat.le_of_ble_eq_true rfl), (Nat.le_of_ble_eq_true rfl)⟩) (zp_V hK hN hrc hP hD) rfl rfl hl.1 rfl (lv_room (Nat.le_of_ble_eq_true rfl)) dX0_weeksGo_1 ⟨(Nat.le_of_ble_eq_true rfl), (Nat.le_of_ble_eq_true rfl)⟩) (fun u H locs h hP hD hS => ?_)
  obtain ⟨f_2, rfl⟩ : ∃ z, z = u := ⟨_, rfl⟩
  try dsimp only at h
  have hP : va_P D vwCl [zQ (kk 4) (ad 1) 4 (zKf ad), zJ (ad 2) 1, zJ (ad 3) 2, zJ (ad 4) 3, zJ (ad 5) 4, zL la lt lf fl, zA (kk 0) lt 20 tw, zA (kk 0) lf 20 fx, zO ad f_2 g] H := hP
  have hD : va_D A [zQ (kk 4) (ad 1) 4 (zKf ad), zJ (ad 2) 1, zJ (ad 3) 2, zJ (ad 4) 3, zJ (ad 5) 4, zL la lt lf fl, zA (kk 0) lt 20 tw, zA (kk 0) lf 20 fx, zO ad f_2 g] := hD
  refine lv_iconst (v := (0 : Int32)) hx hb dX0_weeksGo_4 (by decide) ?_
  have cut_6 : ∀ (nl6 : Nat) (f : Nat → Int32) (fl : Nat → Int32) (tw : Nat → Int32) (x3 : Int32), wpX0_weeksGo_6 fx p1 Q  nl6 f fl tw x3 → ∀ (H : Heap) (locs : List Loc), va_P D vwCl [zO ad f g, zQ (kk 4) (ad 1) 4 (zKf ad), zJ (ad 2) 1, zJ (ad 3) 2, zJ (ad 4) 3, zJ (ad 5) 4, zL la lt lf fl, zA (kk 0) lt 20 tw, zA (kk 0) lf 20 fx] H → va_D A [zO ad f g, zQ (kk 4) (ad 1) 4 (zKf ad), zJ (ad 2) 1, zJ (ad 3) 2, zJ (ad 4) 3, zJ (ad 5) 4, zL la lt lf fl, zA (kk 0) lt 20 tw, zA (kk 0) lf 20 fx] → va_S A s.heap H locs → ∀ ls : Array Slot, lv_has ls 4 [(3, .int x3), (0, .ref (ad 0)), (1, .ref la), (2, .int p1)] → W p l e { frames := 7, cells := 0, slots := 0, locals := 160 } s m ([.ref (ad 0), .ref la, .int p1] : List Value).toArray below meth c H locs 0 0 (MQ below (va_Qv (fun (u : (Nat → Int32) × (Nat → Int32) × (Nat → Int32)) => Q u.1 u.2.1 u.2.2) (zB D A (fun u : (Nat → Int32) × (Nat → Int32) × (Nat → Int32) => [zO ad u.1 g, zQ (kk 4) (ad 1) 4 (zKf ad), zJ (ad 2) 1, zJ (ad 3) 2, zJ (ad 4) 3, zJ (ad 5) 4, zL la lt lf u.2.1, zA (kk 0) lt 20 u.2.2, zA (kk 0) lf 20 fx])) A) ([.ref (ad 0), .ref la, .int p1] : List Value).toArray s 0 0 A) (F0 m 6 ls []) := by
    intro nl6
    induction nl6 with
    | zero => intro f fl tw x3 h; exact absurd h id
    | succ nl6 ih_6 =>
      intro f fl tw x3 h H locs hP hD hS ls hl
      have h : wbX0_weeksGo_6 fx p1 Q  (wpX0_weeksGo_6 fx p1 Q  nl6) f fl tw x3 := h
      unfold wbX0_weeksGo_6 at h
      refine lv_iload_n hx hb dX0_weeksGo_6 rfl (lv_at hl 0 rfl) ?_
      refine lv_iload_n hx hb dX0_weeksGo_7 rfl (lv_at hl 3 rfl) ?_
      refine lv_icmp_ge (tgt := 23) hx hb dX0_weeksGo_8 (by decide) (fun c_3 => ?_) (fun c_3 => ?_)
      · have h := h.1 c_3
        exact zr_v hx hb hr hlk hP hD hS (f, fl, tw) [0, 1, 2, 3, 4, 5, 6, 7, 8] rfl (by decide) dX0_weeksGo_23 h
      · have h := h.2 c_3
        refine lv_aload_n hx hb dX0_weeksGo_11 rfl (lv_at hl 1 rfl) ?_
        refine lv_aload_n hx hb dX0_weeksGo_12 rfl (lv_at hl 2 rfl) ?_
        refine lv_iconst (v := (0 : Int32)) hx hb dX0_weeksGo_13 (by decide) ?_
        have hrc := va_recv hK hP (ci := 0) (q0 := 0) rfl rfl
        refine zc_v (wc := [zO ad f g, zQ (kk 4) (ad 1) 4 (zKf ad), zJ (ad 2) 1, zJ (ad 3) 2, zJ (ad 4) 3, zJ (ad 5) 4, zL la lt lf fl, zA (kk 0) lt 20 tw, zA (kk 0) lf 20 fx]) (wr := []) (w1 := (fun u : (Nat → Int32) × (Nat → Int32) × (Nat → Int32) => [zO ad u.1 g, zQ (kk 4) (ad 1) 4 (zKf ad), zJ (ad 2) 1, zJ (ad 3) 2, zJ (ad 4) 3, zJ (ad 5) 4, zL la lt lf u.2.1, zA (kk 0) lt 20 u.2.2, zA (kk 0) lf 20 fx])) (rest := []) [0, 1, 2, 3, 4, 5, 6, 7, 8] [] rfl rfl (by decide) (by decide) (by decide) hA hP hD hS (fun hP hD => va_runV (As := [.ref la, .int (0 : Int32)]) (rest := []) ⟨hx, hb, hml, hown, hts⟩ (metX0_weekGoes l D kk ad la lt lf _ f g fl tw fx (0 : Int32) _ h) (cwV 2 hts (lw_V q611 q613 qs17 q64 q614) rfl rfl rfl pdX0_weekGoes ⟨(Nat.le_of_ble_eq_true rfl), (Nat.le_of_ble_eq_true rfl)⟩) (zp_V hK hN hrc hP hD) rfl rfl hl.1 rfl (lv_room (Nat.le_of_ble_eq_true rfl)) dX0_weeksGo_14 ⟨(Nat.le_of_ble_eq_true rfl), (Nat.le_of_ble_eq_true rfl)⟩) (fun u H locs h hP hD hS => ?_)
        obtain ⟨f_5, fl_6, tw_7⟩ := u
        try dsimp only at h
        have hP : va_P D vwCl [zO ad f_5 g, zQ (kk 4) (ad 1) 4 (zKf ad), zJ (ad 2) 1, zJ (ad 3) 2, zJ (ad 4) 3, zJ (ad 5) 4, zL la lt lf fl_6, zA (kk 0) lt 20 tw_7, zA (kk 0) lf 20 fx] H := hP
        have hD : va_D A [zO ad f_5 g, zQ (kk 4) (ad 1) 4 (zKf ad), zJ (ad 2) 1, zJ (ad 3) 2, zJ (ad 4) 3, zJ (ad 5) 4, zL la lt lf fl_6, zA (kk 0) lt 20 tw_7, zA (kk 0) lf 20 fx] := hD
        refine lv_iinc (v := (x3 + 1)) (lv' := [(3, .int (x3 + 1)), (0, .ref (ad 0)), (1, .ref la), (2, .int p1)]) hx hb dX0_weeksGo_17 hl (k := 0) rfl rfl (by decide) rfl (fun ls hl => ?_)
        refine lv_goto (tgt := 6) hx hb dX0_weeksGo_20 (by decide) ?_
        exact ih_6 f_5 fl_6 tw_7 (x3 + 1) h _ _ hP hD hS _ (lv_sub hl [0, 1, 2, 3] rfl)
  refine lv_istore_n (lv' := [(3, .int (0 : Int32)), (0, .ref (ad 0)), (1, .ref la), (2, .int p1)]) hx hb dX0_weeksGo_5 rfl hl (by decide) rfl (fun ls hl => ?_)
  obtain ⟨n_6, h⟩ := h
  exact cut_6 n_6 f_2 fl tw (0 : Int32) h _ _ (hP.sub [8, 0, 1, 2, 3, 4, 5, 6, 7] rfl) (hD.sub [8, 0, 1, 2, 3, 4, 5, 6, 7] (by decide) rfl) hS _ (lv_sub hl [0, 1, 2, 3] rfl)
def wpX0_lends (tw : Nat → Int32) (p1 : Int32) (p2 : Int32) (p3 : Int32) (Q : (Nat → Int32) → Prop) : Prop :=
  (wpX5_of tw p1 (1 : Int32) (fun r_1 => (wpX5_becomes tw p1 (1 : Int32) (r_1 - p3) (fun tw_3 => (wpX5_of tw_3 p2 (1 : Int32) (fun r_4 => (wpX5_becomes tw_3 p2 (1 : Int32) (r_4 + p3) (fun tw_6 => Q tw_6))))))))
set_option maxHeartbeats 4000000 in
theorem metX0_lends (l : Launch) (D : va_G) (kk : Nat → ClassId) (la : Nat) (lt : Nat) (lf : Nat) (sz : Nat) (fl : Nat → Int32) (tw : Nat → Int32) (fx : Nat → Int32) (p1 : Int32) (p2 : Int32) (p3 : Int32) (Q : (Nat → Int32) → Prop) (h : wpX0_lends tw p1 p2 p3 Q) : Met l yX0_lends (ws_ yX0_lends cX0_lends 4 none) { frames := 1, cells := 0, slots := 0, locals := 23 } (va_Pc ([.ref la, .int p1, .int p2, .int p3] : List Value) (zPc D kk [zL la lt lf fl, zA (kk 0) lt 20 tw, zA (kk 0) lf 20 fx] sz)) (va_Qv (fun (u : (Nat → Int32)) => Q u) (zB D (va_A [zL la lt lf fl, zA (kk 0) lt 20 tw, zA (kk 0) lf 20 fx] sz) (fun u : (Nat → Int32) => [zL la lt lf fl, zA (kk 0) lt 20 u, zA (kk 0) lf 20 fx])) (va_A [zL la lt lf fl, zA (kk 0) lt 20 tw, zA (kk 0) lf 20 fx] sz)) 0 0 (va_A [zL la lt lf fl, zA (kk 0) lt 20 tw, zA (kk 0) lf 20 fx] sz) := by
  refine zMet (Qc := fun A => va_Qv (fun (u : (Nat → Int32)) => Q u) (zB D A (fun u : (Nat → Int32) => [zL la lt lf fl, zA (kk 0) lt 20 u, zA (kk 0) lf 20 fx])) A) (by decide) (Nat.le_of_ble_eq_true rfl) ?_
  intro p e s m below meth c A X hP hD hS ls hl
  obtain ⟨hx, hb, hr, hml, hown, hts, hlk, hnm, hK, hN, hA⟩ := X
  have hown : s.vm.findClass "LoseLeague" = some m.cls := hown
  have hl : lv_has ls 4 [(0, .ref la), (1, .int p1), (2, .int p2), (3, .int p3)] := hl
  unfold wpX0_lends at h
  refine lv_aload_n hx hb dX0_lends_0 rfl (lv_at hl 0 rfl) ?_
  refine lv_iload_n hx hb dX0_lends_1 rfl (lv_at hl 1 rfl) ?_
  refine lv_iconst (v := (1 : Int32)) hx hb dX0_lends_2 (by decide) ?_
  refine lv_aload_n hx hb dX0_lends_3 rfl (lv_at hl 0 rfl) ?_
  refine lv_iload_n hx hb dX0_lends_4 rfl (lv_at hl 1 rfl) ?_
  refine lv_iconst (v := (1 : Int32)) hx hb dX0_lends_5 (by decide) ?_
  have hrc := va_recv hK hP (ci := 5) (q0 := 0) rfl rfl
  refine zc_i (wc := [zL la lt lf fl, zA (kk 0) lt 20 tw, zA (kk 0) lf 20 fx]) (wr := []) (w1 := (fun u : Unit => [zL la lt lf fl, zA (kk 0) lt 20 tw, zA (kk 0) lf 20 fx])) (rest := [.int (1 : Int32), .int p1, .ref la]) [0, 1, 2] [] rfl rfl (by decide) (by decide) (by decide) hA hP hD hS (fun hP hD => va_runV (As := [.int p1, .int (1 : Int32)]) (rest := [.int (1 : Int32), .int p1, .ref la]) ⟨hx, hb, hml, hown, hts⟩ (metX5_of l D kk la lt lf _ fl tw fx p1 (1 : Int32) _ h) (cwV 2 hts (lw_V q529 q513 q514 q69 q515) rfl rfl rfl pdX5_of ⟨(Nat.le_of_ble_eq_true rfl), (Nat.le_of_ble_eq_true rfl)⟩) (zp_V hK hN hrc hP hD) rfl rfl hl.1 rfl (lv_room (Nat.le_of_ble_eq_true rfl)) dX0_lends_6 ⟨(Nat.le_of_ble_eq_true rfl), (Nat.le_of_ble_eq_true rfl)⟩) (fun r_1 u H locs h hP hD hS => ?_)
  try dsimp only at h
  have hP : va_P D vwCl [zL la lt lf fl, zA (kk 0) lt 20 tw, zA (kk 0) lf 20 fx] H := hP
  have hD : va_D A [zL la lt lf fl, zA (kk 0) lt 20 tw, zA (kk 0) lf 20 fx] := hD
  refine lv_iload_n hx hb dX0_lends_9 rfl (lv_at hl 3 rfl) ?_
  refine lv_isub hx hb dX0_lends_10 ?_
  have hrc := va_recv hK hP (ci := 5) (q0 := 0) rfl rfl
  refine zc_v (wc := [zL la lt lf fl, zA (kk 0) lt 20 tw, zA (kk 0) lf 20 fx]) (wr := []) (w1 := (fun u : (Nat → Int32) => [zL la lt lf fl, zA (kk 0) lt 20 u, zA (kk 0) lf 20 fx])) (rest := []) [0, 1, 2] [] rfl rfl (by decide) (by decide) (by decide) hA hP hD hS (fun hP hD => va_runV (As := [.int p1, .int (1 : Int32), .int (r_1 - p3)]) (rest := []) ⟨hx, hb, hml, hown, hts⟩ (metX5_becomes l D kk la lt lf _ fl tw fx p1 (1 : Int32) (r_1 - p3) _ h) (cwV 3 hts (lw_V q576 q486 q487 q69 q488) rfl rfl rfl pdX5_becomes ⟨(Nat.le_of_ble_eq_true rfl), (Nat.le_of_ble_eq_true rfl)⟩) (zp_V hK hN hrc hP hD) rfl rfl hl.1 rfl (lv_room (Nat.le_of_ble_eq_true rfl)) dX0_lends_11 ⟨(Nat.le_of_ble_eq_true rfl), (Nat.le_of_ble_eq_true rfl)⟩) (fun u H locs h hP hD hS => ?_)
  obtain ⟨tw_3, rfl⟩ : ∃ z, z = u := ⟨_, rfl⟩
  try dsimp only at h
  have hP : va_P D vwCl [zL la lt lf fl, zA (kk 0) lt 20 tw_3, zA (kk 0) lf 20 fx] H := hP
  have hD : va_D A [zL la lt lf fl, zA (kk 0) lt 20 tw_3, zA (kk 0) lf 20 fx] := hD
  refine lv_aload_n hx hb dX0_lends_14 rfl (lv_at hl 0 rfl) ?_
  refine lv_iload_n hx hb dX0_lends_15 rfl (lv_at hl 2 rfl) ?_
  refine lv_iconst (v := (1 : Int32)) hx hb dX0_lends_16 (by decide) ?_
  refine lv_aload_n hx hb dX0_lends_17 rfl (lv_at hl 0 rfl) ?_
  refine lv_iload_n hx hb dX0_lends_18 rfl (lv_at hl 2 rfl) ?_
  refine lv_iconst (v := (1 : Int32)) hx hb dX0_lends_19 (by decide) ?_
  have hrc := va_recv hK hP (ci := 5) (q0 := 0) rfl rfl
  refine zc_i (wc := [zL la lt lf fl, zA (kk 0) lt 20 tw_3, zA (kk 0) lf 20 fx]) (wr := []) (w1 := (fun u : Unit => [zL la lt lf fl, zA (kk 0) lt 20 tw_3, zA (kk 0) lf 20 fx])) (rest := [.int (1 : Int32), .int p2, .ref la]) [0, 1, 2] [] rfl rfl (by decide) (by decide) (by decide) hA hP hD hS (fun hP hD => va_runV (As := [.int p2, .int (1 : Int32)]) (rest := [.int (1 : Int32), .int p2, .ref la]) ⟨hx, hb, hml, hown, hts⟩ (metX5_of l D kk la lt lf _ fl tw_3 fx p2 (1 : Int32) _ h) (cwV 2 hts (lw_V q529 q513 q514 q69 q515) rfl rfl rfl pdX5_of ⟨(Nat.le_of_ble_eq_true rfl), (Nat.le_of_ble_eq_true rfl)⟩) (zp_V hK hN hrc hP hD) rfl rfl hl.1 rfl (lv_room (Nat.le_of_ble_eq_true rfl)) dX0_lends_20 ⟨(Nat.le_of_ble_eq_true rfl), (Nat.le_of_ble_eq_true rfl)⟩) (fun r_4 u H locs h hP hD hS => ?_)
  try dsimp only at h
  have hP : va_P D vwCl [zL la lt lf fl, zA (kk 0) lt 20 tw_3, zA (kk 0) lf 20 fx] H := hP
  have hD : va_D A [zL la lt lf fl, zA (kk 0) lt 20 tw_3, zA (kk 0) lf 20 fx] := hD
  refine lv_iload_n hx hb dX0_lends_23 rfl (lv_at hl 3 rfl) ?_
  refine lv_iadd hx hb dX0_lends_24 ?_
  have hrc := va_recv hK hP (ci := 5) (q0 := 0) rfl rfl
  refine zc_v (wc := [zL la lt lf fl, zA (kk 0) lt 20 tw_3, zA (kk 0) lf 20 fx]) (wr := []) (w1 := (fun u : (Nat → Int32) => [zL la lt lf fl, zA (kk 0) lt 20 u, zA (kk 0) lf 20 fx])) (rest := []) [0, 1, 2] [] rfl rfl (by decide) (by decide) (by decide) hA hP hD hS (fun hP hD => va_runV (As := [.int p2, .int (1 : Int32), .int (r_4 + p3)]) (rest := []) ⟨hx, hb, hml, hown, hts⟩ (metX5_becomes l D kk la lt lf _ fl tw_3 fx p2 (1 : Int32) (r_4 + p3) _ h) (cwV 3 hts (lw_V q576 q486 q487 q69 q488) rfl rfl rfl pdX5_becomes ⟨(Nat.le_of_ble_eq_true rfl), (Nat.le_of_ble_eq_true rfl)⟩) (zp_V hK hN hrc hP hD) rfl rfl hl.1 rfl (lv_room (Nat.le_of_ble_eq_true rfl)) dX0_lends_25 ⟨(Nat.le_of_ble_eq_true rfl), (Nat.le_of_ble_eq_true rfl)⟩) (fun u H locs h hP hD hS => ?_)
  obtain ⟨tw_6, rfl⟩ : ∃ z, z = u := ⟨_, rfl⟩
  try dsimp only at h
  have hP : va_P D vwCl [zL la lt lf fl, zA (kk 0) lt 20 tw_6, zA (kk 0) lf 20 fx] H := hP
  have hD : va_D A [zL la lt lf fl, zA (kk 0) lt 20 tw_6, zA (kk 0) lf 20 fx] := hD
  exact zr_v hx hb hr hlk hP hD hS (tw_6) [0, 1, 2] rfl (by decide) dX0_lends_28 h
