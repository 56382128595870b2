set_option maxRecDepth 100000
theorem pdX5_of : yX5_of.cls = "LoseLeague$League" ∧ yX5_of.cls ≠ "java/lang/invoke/MethodHandle" ∧ yX5_of.cls ≠ "java/lang/invoke/VarHandle" ∧ (parseMethodDescriptor yX5_of.desc).map (fun d => d.parameters.length) = some 2 := by decide +kernel
theorem peX5_of : yX5_of.name ≠ "<init>" ∧ (parseMethodDescriptor yX5_of.desc).map (fun d => d.parameters.length) = some 2 := by decide +kernel
theorem pdX5_becomes : yX5_becomes.cls = "LoseLeague$League" ∧ yX5_becomes.cls ≠ "java/lang/invoke/MethodHandle" ∧ yX5_becomes.cls ≠ "java/lang/invoke/VarHandle" ∧ (parseMethodDescriptor yX5_becomes.desc).map (fun d => d.parameters.length) = some 3 := by decide +kernel
theorem peX5_becomes : yX5_becomes.name ≠ "<init>" ∧ (parseMethodDescriptor yX5_becomes.desc).map (fun d => d.parameters.length) = some 3 := by decide +kernel
theorem pdX5_grows : yX5_grows.cls = "LoseLeague$League" ∧ yX5_grows.cls ≠ "java/lang/invoke/MethodHandle" ∧ yX5_grows.cls ≠ "java/lang/invoke/VarHandle" ∧ (parseMethodDescriptor yX5_grows.desc).map (fun d => d.parameters.length) = some 4 := by decide +kernel
theorem peX5_grows : yX5_grows.name ≠ "<init>" ∧ (parseMethodDescriptor yX5_grows.desc).map (fun d => d.parameters.length) = some 4 := by decide +kernel
theorem pdX5_joins : yX5_joins.cls = "LoseLeague$League" ∧ yX5_joins.cls ≠ "java/lang/invoke/MethodHandle" ∧ yX5_joins.cls ≠ "java/lang/invoke/VarHandle" ∧ (parseMethodDescriptor yX5_joins.desc).map (fun d => d.parameters.length) = some 2 := by decide +kernel
theorem peX5_joins : yX5_joins.name ≠ "<init>" ∧ (parseMethodDescriptor yX5_joins.desc).map (fun d => d.parameters.length) = some 2 := by decide +kernel
theorem pdX5_books : yX5_books.cls = "LoseLeague$League" ∧ yX5_books.cls ≠ "java/lang/invoke/MethodHandle" ∧ yX5_books.cls ≠ "java/lang/invoke/VarHandle" ∧ (parseMethodDescriptor yX5_books.desc).map (fun d => d.parameters.length) = some 2 := by decide +kernel
theorem peX5_books : yX5_books.name ≠ "<init>" ∧ (parseMethodDescriptor yX5_books.desc).map (fun d => d.parameters.length) = some 2 := by decide +kernel
theorem pdX5_next : yX5_next.cls = "LoseLeague$League" ∧ yX5_next.cls ≠ "java/lang/invoke/MethodHandle" ∧ yX5_next.cls ≠ "java/lang/invoke/VarHandle" ∧ (parseMethodDescriptor yX5_next.desc).map (fun d => d.parameters.length) = some 0 := by decide +kernel
theorem peX5_next : yX5_next.name ≠ "<init>" ∧ (parseMethodDescriptor yX5_next.desc).map (fun d => d.parameters.length) = some 0 := by decide +kernel
theorem pdX5_sumOf : yX5_sumOf.cls = "LoseLeague$League" ∧ yX5_sumOf.cls ≠ "java/lang/invoke/MethodHandle" ∧ yX5_sumOf.cls ≠ "java/lang/invoke/VarHandle" ∧ (parseMethodDescriptor yX5_sumOf.desc).map (fun d => d.parameters.length) = some 1 := by decide +kernel
theorem peX5_sumOf : yX5_sumOf.name ≠ "<init>" ∧ (parseMethodDescriptor yX5_sumOf.desc).map (fun d => d.parameters.length) = some 1 := by decide +kernel
theorem pdX5_beaten : yX5_beaten.cls = "LoseLeague$League" ∧ yX5_beaten.cls ≠ "java/lang/invoke/MethodHandle" ∧ yX5_beaten.cls ≠ "java/lang/invoke/VarHandle" ∧ (parseMethodDescriptor yX5_beaten.desc).map (fun d => d.parameters.length) = some 0 := by decide +kernel
theorem peX5_beaten : yX5_beaten.name ≠ "<init>" ∧ (parseMethodDescriptor yX5_beaten.desc).map (fun d => d.parameters.length) = some 0 := by decide +kernel
theorem pdX5_isOver : yX5_isOver.cls = "LoseLeague$League" ∧ yX5_isOver.cls ≠ "java/lang/invoke/MethodHandle" ∧ yX5_isOver.cls ≠ "java/lang/invoke/VarHandle" ∧ (parseMethodDescriptor yX5_isOver.desc).map (fun d => d.parameters.length) = some 0 := by decide +kernel
theorem peX5_isOver : yX5_isOver.name ≠ "<init>" ∧ (parseMethodDescriptor yX5_isOver.desc).map (fun d => d.parameters.length) = some 0 := by decide +kernel
theorem pdX5_as : yX5_as.cls = "LoseLeague$League" ∧ yX5_as.cls ≠ "java/lang/invoke/MethodHandle" ∧ yX5_as.cls ≠ "java/lang/invoke/VarHandle" ∧ (parseMethodDescriptor yX5_as.desc).map (fun d => d.parameters.length) = some 1 := by decide +kernel
theorem peX5_as : yX5_as.name ≠ "<init>" ∧ (parseMethodDescriptor yX5_as.desc).map (fun d => d.parameters.length) = some 1 := by decide +kernel
theorem pdX5_isPlace : yX5_isPlace.cls = "LoseLeague$League" ∧ yX5_isPlace.cls ≠ "java/lang/invoke/MethodHandle" ∧ yX5_isPlace.cls ≠ "java/lang/invoke/VarHandle" ∧ (parseMethodDescriptor yX5_isPlace.desc).map (fun d => d.parameters.length) = some 3 := by decide +kernel
theorem peX5_isPlace : yX5_isPlace.name ≠ "<init>" ∧ (parseMethodDescriptor yX5_isPlace.desc).map (fun d => d.parameters.length) = some 3 := by decide +kernel
def wpX5_of (tw : Nat → Int32) (p1 : Int32) (p2 : Int32) (Q : Int32 → Prop) : Prop :=
  (vp_in (((4 : Int32) * p1) + p2) 20 ∧ Q (tw (((4 : Int32) * p1) + p2).toNatClampNeg))
set_option maxHeartbeats 4000000 in
theorem metX5_of (l : Launch) (D : va_G) (kk : Nat → ClassId) (la : Nat) (lt : Nat) (lf : Nat) (sz : Nat) (fl : Nat → Int32) (tw : Nat → Int32) (fx : Nat → Int32) (p1 : Int32) (p2 : Int32) (Q : Int32 → Prop) (h : wpX5_of tw p1 p2 Q) : Met l yX5_of (ws_ yX5_of cX5_of 3 (some .int)) { frames := 0, cells := 0, slots := 0, locals := 0 } (va_Pc ([.ref la, .int p1, .int p2] : List Value) (zPc D kk [zL la lt lf fl, zA (kk 0) lt 20 tw, zA (kk 0) lf 20 fx] sz)) (va_Qi (fun (r : Int32) (u : Unit) => Q r ) (zB D (va_A [zL la lt lf fl, zA (kk 0) lt 20 tw, zA (kk 0) lf 20 fx] sz) (fun u : Unit => [zL la lt lf fl, zA (kk 0) lt 20 tw, zA (kk 0) lf 20 fx])) (va_A [zL la lt lf fl, zA (kk 0) lt 20 tw, zA (kk 0) lf 20 fx] sz)) 0 0 (va_A [zL la lt lf fl, zA (kk 0) lt 20 tw, zA (kk 0) lf 20 fx] sz) := by
  refine zMet (Qc := fun A => va_Qi (fun (r : Int32) (u : Unit) => Q r ) (zB D A (fun u : Unit => [zL la lt lf fl, zA (kk 0) lt 20 tw, zA (kk 0) lf 20 fx])) A) (by decide) (Nat.le_of_ble_eq_true rfl) ?_
  intro p e s m below meth c A X hP hD hS ls hl
  obtain ⟨hx, hb, hr, hml, hown, hts, hlk, hnm, hK, hN, hA⟩ := X
  have hown : s.vm.findClass "LoseLeague$League" = some m.cls := hown
  have hl : lv_has ls 3 [(0, .ref la), (1, .int p1), (2, .int p2)] := hl
  unfold wpX5_of at h
  refine lv_aload_n hx hb dX5_of_0 rfl (lv_at hl 0 rfl) ?_
  refine va_get (D := D) (ci := 5) (v := .ref lt) (C := RX5) (T := TX5) (N := 6) hx hb hts in_X5 hown hK hP 0 rfl rfl 1 (Nat.le_of_ble_eq_true rfl) (hts _ q135) (fun _ h9 => h9) rfl dX5_of_1 ?_
  refine lv_iconst (v := (4 : Int32)) hx hb dX5_of_4 (by decide) ?_
  refine lv_iload_n hx hb dX5_of_5 rfl (lv_at hl 1 rfl) ?_
  refine lv_imul hx hb dX5_of_6 ?_
  refine lv_iload_n hx hb dX5_of_7 rfl (lv_at hl 2 rfl) ?_
  refine lv_iadd hx hb dX5_of_8 ?_
  obtain ⟨hin, h⟩ := h
  refine va_bald hx hb hK hP 1 0 rfl rfl hin dX5_of_9 ?_
  exact zr_i hx hb hr hlk rfl hP hD hS () [0, 1, 2] rfl (by decide) dX5_of_10 h
def wpX5_becomes (tw : Nat → Int32) (p1 : Int32) (p2 : Int32) (p3 : Int32) (Q : (Nat → Int32) → Prop) : Prop :=
  (vp_in (((4 : Int32) * p1) + p2) 20 ∧ Q (upd tw (((4 : Int32) * p1) + p2).toNatClampNeg (vp_nar .byte (p3.toInt8.toInt32))))
set_option maxHeartbeats 4000000 in
theorem metX5_becomes (l : Launch) (D : va_G) (kk : Nat → ClassId) (la : Nat) (lt : Nat) (lf : Nat) (sz : Nat) (fl : Nat → Int32) (tw : Nat → Int32) (fx : Nat → Int32) (p1 : Int32) (p2 : Int32) (p3 : Int32) (Q : (Nat → Int32) → Prop) (h : wpX5_becomes tw p1 p2 p3 Q) : Met l yX5_becomes (ws_ yX5_becomes cX5_becomes 4 none) { frames := 0, cells := 0, slots := 0, locals := 0 } (va_Pc ([.ref la, .int p1, .int p2, .int p3] : List Value) (zPc D kk [zL la lt lf fl, zA (kk 0) lt 20 tw, zA (kk 0) lf 20 fx] sz)) (va_Qv (fun (u : (Nat → Int32)) => Q u) (zB D (va_A [zL la lt lf fl, zA (kk 0) lt 20 tw, zA (kk 0) lf 20 fx] sz) (fun u : (Nat → Int32) => [zL la lt lf fl, zA (kk 0) lt 20 u, zA (kk 0) lf 20 fx])) (va_A [zL la lt lf fl, zA (kk 0) lt 20 tw, zA (kk 0) lf 20 fx] sz)) 0 0 (va_A [zL la lt lf fl, zA (kk 0) lt 20 tw, zA (kk 0) lf 20 fx] sz) := by
  refine zMet (Qc := fun A => va_Qv (fun (u : (Nat → Int32)) => Q u) (zB D A (fun u : (Nat → Int32) => [zL la lt lf fl, zA (kk 0) lt 20 u, zA (kk 0) lf 20 fx])) A) (by decide) (Nat.le_of_ble_eq_true rfl) ?_
  intro p e s m below meth c A X hP hD hS ls hl
  obtain ⟨hx, hb, hr, hml, hown, hts, hlk, hnm, hK, hN, hA⟩ := X
  have hown : s.vm.findClass "LoseLeague$League" = some m.cls := hown
  have hl : lv_has ls 4 [(0, .ref la), (1, .int p1), (2, .int p2), (3, .int p3)] := hl
  unfold wpX5_becomes at h
  refine lv_aload_n hx hb dX5_becomes_0 rfl (lv_at hl 0 rfl) ?_
  refine va_get (D := D) (ci := 5) (v := .ref lt) (C := RX5) (T := TX5) (N := 6) hx hb hts in_X5 hown hK hP 0 rfl rfl 1 (Nat.le_of_ble_eq_true rfl) (hts _ q135) (fun _ h9 => h9) rfl dX5_becomes_1 ?_
  refine lv_iconst (v := (4 : Int32)) hx hb dX5_becomes_4 (by decide) ?_
  refine lv_iload_n hx hb dX5_becomes_5 rfl (lv_at hl 1 rfl) ?_
  refine lv_imul hx hb dX5_becomes_6 ?_
  refine lv_iload_n hx hb dX5_becomes_7 rfl (lv_at hl 2 rfl) ?_
  refine lv_iadd hx hb dX5_becomes_8 ?_
  refine lv_iload_n hx hb dX5_becomes_9 rfl (lv_at hl 3 rfl) ?_
  refine lv_i2b hx hb dX5_becomes_10 rfl ?_
  obtain ⟨hin, h⟩ := h
  refine va_bast hx hb hK hP hD hS 1 0 rfl rfl hin dX5_becomes_11 (fun H locs hP hD hS => ?_)
  have hP : va_P D vwCl [zL la lt lf fl, zA (kk 0) lt 20 (upd tw (((4 : Int32) * p1) + p2).toNatClampNeg (vp_nar .byte (p3.toInt8.toInt32))), zA (kk 0) lf 20 fx] H := hP
  have hD : va_D A [zL la lt lf fl, zA (kk 0) lt 20 (upd tw (((4 : Int32) * p1) + p2).toNatClampNeg (vp_nar .byte (p3.toInt8.toInt32))), zA (kk 0) lf 20 fx] := hD
  exact zr_v hx hb hr hlk hP hD hS ((upd tw (((4 : Int32) * p1) + p2).toNatClampNeg (vp_nar .byte (p3.toInt8.toInt32)))) [0, 1, 2] rfl (by decide) dX5_becomes_12 h
def wpX5_grows (tw : Nat → Int32) (p1 : Int32) (p2 : Int32) (p3 : Int32) (p4 : Int32) (Q : (Nat → Int32) → Prop) : Prop :=
  (wpX5_of tw p1 p2 (fun r_1 => (wpX5_becomes tw p1 p2 (if (0 : Int32) < (if (r_1 + p3) < p4 then (r_1 + p3) else p4) then (if (r_1 + p3) < p4 then (r_1 + p3) else p4) else (0 : Int32)) (fun tw_3 => Q tw_3))))
set_option maxHeartbeats 4000000 in
theorem metX5_grows (l : Launch) (D : va_G) (kk : Nat → ClassId) (la : Nat) (lt : Nat) (lf : Nat) (sz : Nat) (fl : Nat → Int32) (tw : Nat → Int32) (fx : Nat → Int32) (p1 : Int32) (p2 : Int32) (p3 : Int32) (p4 : Int32) (Q : (Nat → Int32) → Prop) (h : wpX5_grows tw p1 p2 p3 p4 Q) : Met l yX5_grows (ws_ yX5_grows cX5_grows 5 none) { frames := 1, cells := 0, slots := 0, locals := 23 } (va_Pc ([.ref la, .int p1, .int p2, .int p3, .int p4] : List Value) (zPc D kk [zL la lt lf fl, zA (kk 0) lt 20 tw, zA (kk 0) lf 20 fx] sz)) (va_Qv (fun (u : (Nat → Int32)) => Q u) (zB D (va_A [zL la lt lf fl, zA (kk 0) lt 20 tw, zA (kk 0) lf 20 fx] sz) (fun u : (Nat → Int32) => [zL la lt lf fl, zA (kk 0) lt 20 u, zA (kk 0) lf 20 fx])) (va_A [zL la lt lf fl, zA (kk 0) lt 20 tw, zA (kk 0) lf 20 fx] sz)) 0 0 (va_A [zL la lt lf fl, zA (kk 0) lt 20 tw, zA (kk 0) lf 20 fx] sz) := by
  refine zMet (Qc := fun A => va_Qv (fun (u : (Nat → Int32)) => Q u) (zB D A (fun u : (Nat → Int32) => [zL la lt lf fl, zA (kk 0) lt 20 u, zA (kk 0) lf 20 fx])) A) (by decide) (Nat.le_of_ble_eq_true rfl) ?_
  intro p e s m below meth c A X hP hD hS ls hl
  obtain ⟨hx, hb, hr, hml, hown, hts, hlk, hnm, hK, hN, hA⟩ := X
  have hown : s.vm.findClass "LoseLeague$League" = some m.cls := hown
  have hl : lv_has ls 5 [(0, .ref la), (1, .int p1), (2, .int p2), (3, .int p3), (4, .int p4)] := hl
  unfold wpX5_grows at h
  refine lv_aload_n hx hb dX5_grows_0 rfl (lv_at hl 0 rfl) ?_
  refine lv_iload_n hx hb dX5_grows_1 rfl (lv_at hl 1 rfl) ?_
  refine lv_iload_n hx hb dX5_grows_2 rfl (lv_at hl 2 rfl) ?_
  refine lv_iconst (v := (0 : Int32)) hx hb dX5_grows_3 (by decide) ?_
  refine lv_iload hx hb dX5_grows_4 (lv_at hl 4 rfl) ?_
  refine lv_aload_n hx hb dX5_grows_6 rfl (lv_at hl 0 rfl) ?_
  refine lv_iload_n hx hb dX5_grows_7 rfl (lv_at hl 1 rfl) ?_
  refine lv_iload_n hx hb dX5_grows_8 rfl (lv_at hl 2 rfl) ?_
  have hrc := va_recv hK hP (ci := 5) (q0 := 0) rfl rfl
  refine zc_i (wc := [zL la lt lf fl, zA (kk 0) lt 20 tw, zA (kk 0) lf 20 fx]) (wr := []) (w1 := (fun u : Unit => [zL la lt lf fl, zA (kk 0) lt 20 tw, zA (kk 0) lf 20 fx])) (rest := [.int p4, .int (0 : Int32), .int p2, .int p1, .ref la]) [0, 1, 2] [] rfl rfl (by decide) (by decide) (by decide) hA hP hD hS (fun hP hD => va_runV (As := [.int p1, .int p2]) (rest := [.int p4, .int (0 : Int32), .int p2, .int p1, .ref la]) ⟨hx, hb, hml, hown, hts⟩ (metX5_of l D kk la lt lf _ fl tw fx p1 p2 _ h) (cwV 2 hts (lw_V q512 q513 q514 q69 q515) rfl rfl rfl pdX5_of ⟨(Nat.le_of_ble_eq_true rfl), (Nat.le_of_ble_eq_true rfl)⟩) (zp_V hK hN hrc hP hD) rfl rfl hl.1 rfl (lv_room (Nat.le_of_ble_eq_true rfl)) dX5_grows_9 ⟨(Nat.le_of_ble_eq_true rfl), (Nat.le_of_ble_eq_true rfl)⟩) (fun r_1 u H locs h hP hD hS => ?_)
  try dsimp only at h
  have hP : va_P D vwCl [zL la lt lf fl, zA (kk 0) lt 20 tw, zA (kk 0) lf 20 fx] H := hP
  have hD : va_D A [zL la lt lf fl, zA (kk 0) lt 20 tw, zA (kk 0) lf 20 fx] := hD
  refine lv_iload_n hx hb dX5_grows_12 rfl (lv_at hl 3 rfl) ?_
  refine lv_iadd hx hb dX5_grows_13 ?_
  refine va_mmin hx hb (by rw [hml]; exact hl.1.symm) hown (hts _ q623) (hts _ q624) (hts _ q80) (hts _ q625) (Nat.le_of_ble_eq_true rfl) (Nat.le_of_ble_eq_true rfl) (Nat.le_of_ble_eq_true rfl) (Nat.le_of_ble_eq_true rfl) dX5_grows_14 ?_
  refine va_mmax hx hb (by rw [hml]; exact hl.1.symm) hown (hts _ q626) (hts _ q475) (hts _ q80) (hts _ q476) (Nat.le_of_ble_eq_true rfl) (Nat.le_of_ble_eq_true rfl) (Nat.le_of_ble_eq_true rfl) (Nat.le_of_ble_eq_true rfl) dX5_grows_17 ?_
  have hrc := va_recv hK hP (ci := 5) (q0 := 0) rfl rfl
  refine zc_v (wc := [zL la lt lf fl, zA (kk 0) lt 20 tw, zA (kk 0) lf 20 fx]) (wr := []) (w1 := (fun u : (Nat → Int32) => [zL la lt lf fl, zA (kk 0) lt 20 u, zA (kk 0) lf 20 fx])) (rest := []) [0, 1, 2] [] rfl rfl (by decide) (by decide) (by decide) hA hP hD hS (fun hP hD => va_runV (As := [.int p1, .int p2, .int (if (0 : Int32) < (if (r_1 + p3) < p4 then (r_1 + p3) else p4) then (if (r_1 + p3) < p4 then (r_1 + p3) else p4) else (0 : Int32))]) (rest := []) ⟨hx, hb, hml, hown, hts⟩ (metX5_becomes l D kk la lt lf _ fl tw fx p1 p2 (if (0 : Int32) < (if (r_1 + p3) < p4 then (r_1 + p3) else p4) then (if (r_1 + p3) < p4 then (r_1 + p3) else p4) else (0 : Int32)) _ h) (cwV 3 hts (lw_V q485 q486 q487 q69 q488) rfl rfl rfl pdX5_becomes ⟨(Nat.le_of_ble_eq_true rfl), (Nat.le_of_ble_eq_true rfl)⟩) (zp_V hK hN hrc hP hD) rfl rfl hl.1 rfl (lv_room (Nat.le_of_ble_eq_true rfl)) dX5_grows_20 ⟨(Nat.le_of_ble_eq_true rfl), (Nat.le_of_ble_eq_true rfl)⟩) (fun u H locs h hP hD hS => ?_)
  obtain ⟨tw_3, rfl⟩ : ∃ z, z = u := ⟨_, rfl⟩
  try dsimp only at h
  have hP : va_P D vwCl [zL la lt lf fl, zA (kk 0) lt 20 tw_3, zA (kk 0) lf 20 fx] H := hP
  have hD : va_D A [zL la lt lf fl, zA (kk 0) lt 20 tw_3, zA (kk 0) lf 20 fx] := hD
  exact zr_v hx hb hr hlk hP hD hS (tw_3) [0, 1, 2] rfl (by decide) dX5_grows_23 h
def wpX5_joins (fl : Nat → Int32) (tw : Nat → Int32) (p1 : Int32) (p2 : Int32) (Q : (Nat → Int32) → (Nat → Int32) → Prop) : Prop :=
  (wpX5_becomes tw (fl 0) (0 : Int32) p1 (fun tw_2 => (wpX5_becomes tw_2 (fl 0) (1 : Int32) p2 (fun tw_4 => (wpX5_becomes tw_4 (fl 0) (2 : Int32) (0 : Int32) (fun tw_6 => (wpX5_becomes tw_6 (fl 0) (3 : Int32) (0 : Int32) (fun tw_8 => Q (upd fl 0 ((fl 0) + (1 : Int32))) tw_8))))))))
set_option maxHeartbeats 4000000 in
theorem metX5_joins (l : Launch) (D : va_G) (kk : Nat → ClassId) (la : Nat) (lt : Nat) (lf : Nat) (sz : Nat) (fl : Nat → Int32) (tw : Nat → Int32) (fx : Nat → Int32) (p1 : Int32) (p2 : Int32) (Q : (Nat → Int32) → (Nat → Int32) → Prop) (h : wpX5_joins fl tw p1 p2 Q) : Met l yX5_joins (ws_ yX5_joins cX5_joins 3 none) { frames := 1, cells := 0, slots := 0, locals := 23 } (va_Pc ([.ref la, .int p1, .int p2] : List Value) (zPc D kk [zL la lt lf fl, zA (kk 0) lt 20 tw, zA (kk 0) lf 20 fx] sz)) (va_Qv (fun (u : (Nat → Int32) × (Nat → Int32)) => Q u.1 u.2) (zB D (va_A [zL la lt lf fl, zA (kk 0) lt 20 tw, zA (kk 0) lf 20 fx] sz) (fun u : (Nat → Int32) × (Nat → Int32) => [zL la lt lf u.1, zA (kk 0) lt 20 u.2, zA (kk 0) lf 20 fx])) (va_A [zL la lt lf fl, zA (kk 0) lt 20 tw, zA (kk 0) lf 20 fx] sz)) 0 0 (va_A [zL la lt lf fl, zA (kk 0) lt 20 tw, zA (kk 0) lf 20 fx] sz) := by
  refine zMet (Qc := fun A => va_Qv (fun (u : (Nat → Int32) × (Nat → Int32)) => Q u.1 u.2) (zB D A (fun u : (Nat → Int32) × (Nat → Int32) => [zL la lt lf u.1, zA (kk 0) lt 20 u.2, zA (kk 0) lf 20 fx])) A) (by decide) (Nat.le_of_ble_eq_true rfl) ?_
  intro p e s m below meth c A X hP hD hS ls hl
  obtain ⟨hx, hb, hr, hml, hown, hts, hlk, hnm, hK, hN, hA⟩ := X
  have hown : s.vm.findClass "LoseLeague$League" = some m.cls := hown
  have hl : lv_has ls 3 [(0, .ref la), (1, .int p1), (2, .int p2)] := hl
  unfold wpX5_joins at h
  refine lv_aload_n hx hb dX5_joins_0 rfl (lv_at hl 0 rfl) ?_
  refine lv_aload_n hx hb dX5_joins_1 rfl (lv_at hl 0 rfl) ?_
  refine va_get (D := D) (ci := 5) (v := .int (fl 0)) (C := RX5) (T := TX5) (N := 6) hx hb hts in_X5 hown hK hP 0 rfl rfl 0 (Nat.le_of_ble_eq_true rfl) (hts _ q132) (fun _ h9 => h9) rfl dX5_joins_2 ?_
  refine lv_iconst (v := (0 : Int32)) hx hb dX5_joins_5 (by decide) ?_
  refine lv_iload_n hx hb dX5_joins_6 rfl (lv_at hl 1 rfl) ?_
  have hrc := va_recv hK hP (ci := 5) (q0 := 0) rfl rfl
  refine zc_v (wc := [zL la lt lf fl, zA (kk 0) lt 20 tw, zA (kk 0) lf 20 fx]) (wr := []) (w1 := (fun u : (Nat → Int32) => [zL la lt lf fl, zA (kk 0) lt 20 u, zA (kk 0) lf 20 fx])) (rest := []) [0, 1, 2] [] rfl rfl (by decide) (by decide) (by decide) hA hP hD hS (fun hP hD => va_runV (As := [.int (fl 0), .int (0 : Int32), .int p1]) (rest := []) ⟨hx, hb, hml, hown, hts⟩ (metX5_becomes l D kk la lt lf _ fl tw fx (fl 0) (0 : Int32) p1 _ h) (cwV 3 hts (lw_V q485 q486 q487 q69 q488) rfl rfl rfl pdX5_becomes ⟨(Nat.le_of_ble_eq_true rfl), (Nat.le_of_ble_eq_true rfl)⟩) (zp_V hK hN hrc hP hD) rfl rfl hl.1 rfl (lv_room (Nat.le_of_ble_eq_true rfl)) dX5_joins_7 ⟨(Nat.le_of_ble_eq_true rfl), (Nat.le_of_ble_eq_true rfl)⟩) (fun u H locs h hP hD hS => ?_)
  obtain ⟨tw_2, rfl⟩ : ∃ z, z = u := ⟨_, rfl⟩
  try dsimp only at h
  have hP : va_P D vwCl [zL la lt lf fl, zA (kk 0) lt 20 tw_2, zA (kk 0) lf 20 fx] H := hP
  have hD : va_D A [zL la lt lf fl, zA (kk 0) lt 20 tw_2, zA (kk 0) lf 20 fx] := hD
  refine lv_aload_n hx hb dX5_joins_10 rfl (lv_at hl 0 rfl) ?_
  refine lv_aload_n hx hb dX5_joins_11 rfl (lv_at hl 0 rfl) ?_
  refine va_get (D := D) (ci := 5) (v := .int (fl 0)) (C := RX5) (T := TX5) (N := 6) hx hb hts in_X5 hown hK hP 0 rfl rfl 0 (Nat.le_of_ble_eq_true rfl) (hts _ q132) (fun _ h9 => h9) rfl dX5_joins_12 ?_
  refine lv_iconst (v := (1 : Int32)) hx hb dX5_joins_15 (by decide) ?_
  refine lv_iload_n hx hb dX5_joins_16 rfl (lv_at hl 2 rfl) ?_
  have hrc := va_recv hK hP (ci := 5) (q0 := 0) rfl rfl
  refine zc_v (wc := [zL la lt lf fl, zA (kk 0) lt 20 tw_2, zA (kk 0) lf 20 fx]) (wr := []) (w1 := (fun u : (Nat → Int32) => [zL la lt lf fl, zA (kk 0) lt 20 u, zA (kk 0) lf 20 fx])) (rest := []) [0, 1, 2] [] rfl rfl (by decide) (by decide) (by decide) hA hP hD hS (fun hP hD => va_runV (As := [.int (fl 0), .int (1 : Int32), .int p2]) (rest := []) ⟨hx, hb, hml, hown, hts⟩ (metX5_becomes l D kk la lt lf _ fl tw_2 fx (fl 0) (1 : Int32) p2 _ h) (cwV 3 hts (lw_V q485 q486 q487 q69 q488) rfl rfl rfl pdX5_becomes ⟨(Nat.le_of_ble_eq_true rfl), (Nat.le_of_ble_eq_true rfl)⟩) (zp_V hK hN hrc hP hD) rfl rfl hl.1 rfl (lv_room (Nat.le_of_ble_eq_true rfl)) dX5_joins_17 ⟨(Nat.le_of_ble_eq_true rfl), (Nat.le_of_ble_eq_true rfl)⟩) (fun u H locs h hP hD hS => ?_)
  obtain ⟨tw_4, rfl⟩ : ∃ z, z = u := ⟨_, rfl⟩
  try dsimp only at h
  have hP : va_P D vwCl [zL la lt lf fl, zA (kk 0) lt 20 tw_4, zA (kk 0) lf 20 fx] H := hP
  have hD : va_D A [zL la lt lf fl, zA (kk 0) lt 20 tw_4, zA (kk 0) lf 20 fx] := hD
  refine lv_aload_n hx hb dX5_joins_20 rfl (lv_at hl 0 rfl) ?_
  refine lv_aload_n hx hb dX5_joins_21 rfl (lv_at hl 0 rfl) ?_
  refine va_get (D := D) (ci := 5) (v := .int (fl 0)) (C := RX5) (T := TX5) (N := 6) hx hb hts in_X5 hown hK hP 0 rfl rfl 0 (Nat.le_of_ble_eq_true rfl) (hts _ q132) (fun _ h9 => h9) rfl dX5_joins_22 ?_
  refine lv_iconst (v := (2 : Int32)) hx hb dX5_joins_25 (by decide) ?_
  refine lv_iconst (v := (0 : Int32)) hx hb dX5_joins_26 (by decide) ?_
  have hrc := va_recv hK hP (ci := 5) (q0 := 0) rfl rfl
  refine zc_v (wc := [zL la lt lf fl, zA (kk 0) lt 20 tw_4, zA (kk 0) lf 20 fx]) (wr := []) (w1 := (fun u : (Nat → Int32) => [zL la lt lf fl, zA (kk 0) lt 20 u, zA (kk 0) lf 20 fx])) (rest := []) [0, 1, 2] [] rfl rfl (by decide) (by decide) (by decide) hA hP hD hS (fun hP hD => va_runV (As := [.int (fl 0), .int (2 : Int32), .int (0 : Int32)]) (rest := []) ⟨hx, hb, hml, hown, hts⟩ (metX5_becomes l D kk la lt lf _ fl tw_4 fx (fl 0) (2 : Int32) (0 : Int32) _ h) (cwV 3 hts (lw_V q485 q486 q487 q69 q488) rfl rfl rfl pdX5_becomes ⟨(Nat.le_of_ble_eq_true rfl), (Nat.le_of_ble_eq_true rfl)⟩) (zp_V hK hN hrc hP hD) rfl rfl hl.1 rfl (lv_room (Nat.le_of_ble_eq_true rfl)) dX5_joins_27 ⟨(Nat.le_of_ble_eq_true rfl), (Nat.le_of_ble_eq_true rfl)⟩) (fun u H locs h hP hD hS => ?_)
  obtain ⟨tw_6, rfl⟩ : ∃ z, z = u := ⟨_, rfl⟩
  try dsimp only at h
  have hP : va_P D vwCl [zL la lt lf fl, zA (kk 0) lt 20 tw_6, zA (kk 0) lf 20 fx] H := hP
  have hD : va_D A [zL la lt lf fl, zA (kk 0) lt 20 tw_6, zA (kk 0) lf 20 fx] := hD
  refine lv_aload_n hx hb dX5_joins_30 rfl (lv_at hl 0 rfl) ?_
  refine lv_aload_n hx hb dX5_joins_31 rfl (lv_at hl 0 rfl) ?_
  refine va_get (D := D) (ci := 5) (v := .int (fl 0)) (C := RX5) (T := TX5) (N := 6) hx hb hts in_X5 hown hK hP 0 rfl rfl 0 (Nat.le_of_ble_eq_true rfl) (hts _ q132) (fun _ h9 => h9) rfl dX5_joins_32 ?_
  refine lv_iconst (v := (3 : Int32)) hx hb dX5_joins_35 (by decide) ?_
  refine lv_iconst (v := (0 : Int32)) hx hb dX5_joins_36 (by decide) ?_
  have hrc := va_recv hK hP (ci := 5) (q0 := 0) rfl rfl
  refine zc_v (wc := [zL la lt lf fl, zA (kk 0) lt 20 tw_6, zA (kk 0) lf 20 fx]) (wr := []) (w1 := (fun u : (Nat → Int32) => [zL la lt lf fl, zA (kk 0) lt 20 u, zA (kk 0) lf 20 fx])) (rest := []) [0, 1, 2] [] rfl rfl (by decide) (by decide) (by decide) hA hP hD hS (fun hP hD => va_runV (As := [.int (fl 0), .int (3 : Int32), .int (0 : Int32)]) (rest := []) ⟨hx, hb, hml, hown, hts⟩ (metX5_becomes l D kk la lt lf _ fl tw_6 fx (fl 0) (3 : Int32) (0 : Int32) _ h) (cwV 3 hts (lw_V q485 q486 q487 q69 q488) rfl rfl rfl pdX5_becomes ⟨(Nat.le_of_ble_eq_true rfl), (Nat.le_of_ble_eq_true rfl)⟩) (zp_V hK hN hrc hP hD) rfl rfl hl.1 rfl (lv_room (Nat.le_of_ble_eq_true rfl)) dX5_joins_37 ⟨(Nat.le_of_ble_eq_true rfl), (Nat.le_of_ble_eq_true rfl)⟩) (fun u H locs h hP hD hS => ?_)
  obtain ⟨tw_8, rfl⟩ : ∃ z, z = u := ⟨_, rfl⟩
  try dsimp only at h
  have hP : va_P D vwCl [zL la lt lf fl, zA (kk 0) lt 20 tw_8, zA (kk 0) lf 20 fx] H := hP
  have hD : va_D A [zL la lt lf fl, zA (kk 0) lt 20 tw_8, zA (kk 0) lf 20 fx] := hD
  refine lv_aload_n hx hb dX5_joins_40 rfl (lv_at hl 0 rfl) ?_
  refine lv_dup hx hb dX5_joins_41 rfl ?_
  refine va_get (D := D) (ci := 5) (v := .int (fl 0)) (C := RX5) (T := TX5) (N := 6) hx hb hts in_X5 hown hK hP 0 rfl rfl 0 (Nat.le_of_ble_eq_true rfl) (hts _ q132) (fun _ h9 => h9) rfl dX5_joins_42 ?_
  refine lv_iconst (v := (1 : Int32)) hx hb dX5_joins_45 (by decide) ?_
  refine lv_iadd hx hb dX5_joins_46 ?_
  refine va_put (D := D) (ci := 5) (v := .int ((fl 0) + (1 : Int32))) (C := RX5) (T := TX5) (N := 6) hx hb hts in_X5 tyX5 tyX5_ok nmX5 hown hK hP hD hS 0 rfl rfl 0 (Nat.le_of_ble_eq_true rfl) (hts _ q132) (fun _ h9 => h9) rfl (tyX5_ok 0 (Nat.le_of_ble_eq_true rfl)) rfl rfl (Nat.le_of_ble_eq_true rfl) dX5_joins_47 (fun H locs hP hD hS => ?_)
  have hP : va_P D vwCl [zL la lt lf (upd fl 0 ((fl 0) + (1 : Int32))), zA (kk 0) lt 20 tw_8, zA (kk 0) lf 20 fx] H := hP
  have hD : va_D A [zL la lt lf (upd fl 0 ((fl 0) + (1 : Int32))), zA (kk 0) lt 20 tw_8, zA (kk 0) lf 20 fx] := hD
  exact zr_v hx hb hr hlk hP hD hS ((upd fl 0 ((fl 0) + (1 : Int32))), tw_8) [0, 1, 2] rfl (by decide) dX5_joins_50 h
def wpX5_books (fl : Nat → Int32) (fx : Nat → Int32) (p1 : Int32) (p2 : Int32) (Q : (Nat → Int32) → (Nat → Int32) → Prop) : Prop :=
  (vp_in ((2 : Int32) * (fl 2)) 20 ∧ (vp_in (((2 : Int32) * (fl 2)) + (1 : Int32)) 20 ∧ Q (upd fl 2 ((fl 2) + (1 : Int32))) (upd (upd fx ((2 : Int32) * (fl 2)).toNatClampNeg (vp_nar .byte (p1.toInt8.toInt32))) (((2 : Int32) * (fl 2)) + (1 : Int32)).toNatClampNeg (vp_nar .byte (p2.toInt8.toInt32)))))
set_option maxHeartbeats 4000000 in
theorem metX5_books (l : Launch) (D : va_G) (kk : Nat → ClassId) (la : Nat) (lt : Nat) (lf : Nat) (sz : Nat) (fl : Nat → Int32) (tw : Nat → Int32) (fx : Nat → Int32) (p1 : Int32) (p2 : Int32) (Q : (Nat → Int32) → (Nat → Int32) → Prop) (h : wpX5_books fl fx p1 p2 Q) : Met l yX5_books (ws_ yX5_books cX5_books 3 none) { frames := 0, cells := 0, slots := 0, locals := 0 } (va_Pc ([.ref la, .int p1, .int p2] : List Value) (zPc D kk [zL la lt lf fl, zA (kk 0) lt 20 tw, zA (kk 0) lf 20 fx] sz)) (va_Qv (fun (u : (Nat → Int32) × (Nat → Int32)) => Q u.1 u.2) (zB D (va_A [zL la lt lf fl, zA (kk 0) lt 20 tw, zA (kk 0) lf 20 fx] sz) (fun u : (Nat → Int32) × (Nat → Int32) => [zL la lt lf u.1, zA (kk 0) lt 20 tw, zA (kk 0) lf 20 u.2])) (va_A [zL la lt lf fl, zA (kk 0) lt 20 tw, zA (kk 0) lf 20 fx] sz)) 0 0 (va_A [zL la lt lf fl, zA (kk 0) lt 20 tw, zA (kk 0) lf 20 fx] sz) := by
  refine zMet (Qc := fun A => va_Qv (fun (u : (Nat → Int32) × (Nat → Int32)) => Q u.1 u.2) (zB D A (fun u : (Nat → Int32) × (Nat → Int32) => [zL la lt lf u.1, zA (kk 0) lt 20 tw, zA (kk 0) lf 20 u.2])) A) (by decide) (Nat.le_of_ble_eq_true rfl) ?_
  intro p e s m below meth c A X hP hD hS ls hl
  obtain ⟨hx, hb, hr, hml, hown, hts, hlk, hnm, hK, hN, hA⟩ := X
  have hown : s.vm.findClass "LoseLeague$League" = some m.cls := hown
  have hl : lv_has ls 3 [(0, .ref la), (1, .int p1), (2, .int p2)] := hl
  unfold wpX5_books at h
  refine lv_aload_n hx hb dX5_books_0 rfl (lv_at hl 0 rfl) ?_
  refine va_get (D := D) (ci := 5) (v := .ref lf) (C := RX5) (T := TX5) (N := 6) hx hb hts in_X5 hown hK hP 0 rfl rfl 3 (Nat.le_of_ble_eq_true rfl) (hts _ q139) (fun _ h9 => h9) rfl dX5_books_1 ?_
  refine lv_iconst (v := (2 : Int32)) hx hb dX5_books_4 (by decide) ?_
  refine lv_aload_n hx hb dX5_books_5 rfl (lv_at hl 0 rfl) ?_
  refine va_get (D := D) (ci := 5) (v := .int (fl 2)) (C := RX5) (T := TX5) (N := 6) hx hb hts in_X5 hown hK hP 0 rfl rfl 2 (Nat.le_of_ble_eq_true rfl) (hts _ q136) (fun _ h9 => h9) rfl dX5_books_6 ?_
  refine lv_imul hx hb dX5_books_9 ?_
  refine lv_iload_n hx hb dX5_books_10 rfl (lv_at hl 1 rfl) ?_
  refine lv_i2b hx hb dX5_books_11 rfl ?_
  obtain ⟨hin, h⟩ := h
  refine va_bast hx hb hK hP hD hS 2 0 rfl rfl hin dX5_books_12 (fun H locs hP hD hS => ?_)
  have hP : va_P D vwCl [zL la lt lf fl, zA (kk 0) lt 20 tw, zA (kk 0) lf 20 (upd fx ((2 : Int32) * (fl 2)).toNatClampNeg (vp_nar .byte (p1.toInt8.toInt32)))] H := hP
  have hD : va_D A [zL la lt lf fl, zA (kk 0) lt 20 tw, zA (kk 0) lf 20 (upd fx ((2 : Int32) * (fl 2)).toNatClampNeg (vp_nar .byte (p1.toInt8.toInt32)))] := hD
  refine lv_aload_n hx hb dX5_books_13 rfl (lv_at hl 0 rfl) ?_
  refine va_get (D := D) (ci := 5) (v := .ref lf) (C := RX5) (T := TX5) (N := 6) hx hb hts in_X5 hown hK hP 0 rfl rfl 3 (Nat.le_of_ble_eq_true rfl) (hts _ q139) (fun _ h9 => h9) rfl dX5_books_14 ?_
  refine lv_iconst (v := (2 : Int32)) hx hb dX5_books_17 (by decide) ?_
  refine lv_aload_n hx hb dX5_books_18 rfl (lv_at hl 0 rfl) ?_
  refine va_get (D := D) (ci := 5) (v := .int (fl 2)) (C := RX5) (T := TX5) (N := 6) hx hb hts in_X5 hown hK hP 0 rfl rfl 2 (Nat.le_of_ble_eq_true rfl) (hts _ q136) (fun _ h9 => h9) rfl dX5_books_19 ?_
  refine lv_imul hx hb dX5_books_22 ?_
  refine lv_iconst (v := (1 : Int32)) hx hb dX5_books_23 (by decide) ?_
  refine lv_iadd hx hb dX5_books_24 ?_
  refine lv_iload_n hx hb dX5_books_25 rfl (lv_at hl 2 rfl) ?_
  refine lv_i2b hx hb dX5_books_26 rfl ?_
  obtain ⟨hin, h⟩ := h
  refine va_bast hx hb hK hP hD hS 2 0 rfl rfl hin dX5_books_27 (fun H locs hP hD hS => ?_)
  have hP : va_P D vwCl [zL la lt lf fl, zA (kk 0) lt 20 tw, zA (kk 0) lf 20 (upd (upd fx ((2 : Int32) * (fl 2)).toNatClampNeg (vp_nar .byte (p1.toInt8.toInt32))) (((2 : Int32) * (fl 2)) + (1 : Int32)).toNatClampNeg (vp_nar .byte (p2.toInt8.toInt32)))] H := hP
  have hD : va_D A [zL la lt lf fl, zA (kk 0) lt 20 tw, zA (kk 0) lf 20 (upd (upd fx ((2 : Int32) * (fl 2)).toNatClampNeg (vp_nar .byte (p1.toInt8.toInt32))) (((2 : Int32) * (fl 2)) + (1 : Int32)).toNatClampNeg (vp_nar .byte (p2.toInt8.toInt32)))] := hD
  refine lv_aload_n hx hb dX5_books_28 rfl (lv_at hl 0 rfl) ?_
  refine lv_dup hx hb dX5_books_29 rfl ?_
  refine va_get (D := D) (ci := 5) (v := .int (fl 2)) (C := RX5) (T := TX5) (N := 6) hx hb hts in_X5 hown hK hP 0 rfl rfl 2 (Nat.le_of_ble_eq_true rfl) (hts _ q136) (fun _ h9 => h9) rfl dX5_books_30 ?_
  refine lv_iconst (v := (1 : Int32)) hx hb dX5_books_33 (by decide) ?_
  refine lv_iadd hx hb dX5_books_34 ?_
  refine va_put (D := D) (ci := 5) (v := .int ((fl 2) + (1 : Int32))) (C := RX5) (T := TX5) (N := 6) hx hb hts in_X5 tyX5 tyX5_ok nmX5 hown hK hP hD hS 0 rfl rfl 2 (Nat.le_of_ble_eq_true rfl) (hts _ q136) (fun _ h9 => h9) rfl (tyX5_ok 2 (Nat.le_of_ble_eq_true rfl)) rfl rfl (Nat.le_of_ble_eq_true rfl) dX5_books_35 (fun H locs hP hD hS => ?_)
  have hP : va_P D vwCl [zL la lt lf (upd fl 2 ((fl 2) + (1 : Int32))), zA (kk 0) lt 20 tw, zA (kk 0) lf 20 (upd (upd fx ((2 : Int32) * (fl 2)).toNatClampNeg (vp_nar .byte (p1.toInt8.toInt32))) (((2 : Int32) * (fl 2)) + (1 : Int32)).toNatClampNeg (vp_nar .byte (p2.toInt8.toInt32)))] H := hP
  have hD : va_D A [zL la lt lf (upd fl 2 ((fl 2) + (1 : Int32))), zA (kk 0) lt 20 tw, zA (kk 0) lf 20 (upd (upd fx ((2 : Int32) * (fl 2)).toNatClampNeg (vp_nar .byte (p1.toInt8.toInt32))) (((2 : Int32) * (fl 2)) + (1 : Int32)).toNatClampNeg (vp_nar .byte (p2.toInt8.toInt32)))] := hD
  exact zr_v hx hb hr hlk hP hD hS ((upd fl 2 ((fl 2) + (1 : Int32))), (upd (upd fx ((2 : Int32) * (fl 2)).toNatClampNeg (vp_nar .byte (p1.toInt8.toInt32))) (((2 : Int32) * (fl 2)) + (1 : Int32)).toNatClampNeg (vp_nar .byte (p2.toInt8.toInt32)))) [0, 1, 2] rfl (by decide) dX5_books_38 h
def wpX5_next (fl : Nat → Int32) (Q : Int32 → Prop) : Prop :=
  (((fl 2) = 0 → Q (-4 : Int32)) ∧ (¬ (fl 2) = 0 → ((¬ (fl 2) = 0) ∧ Q ((fl 4) - (fl 4) / (fl 2) * (fl 2)))))
set_option maxHeartbeats 4000000 in
theorem metX5_next (l : Launch) (D : va_G) (kk : Nat → ClassId) (la : Nat) (lt : Nat) (lf : Nat) (sz : Nat) (fl : Nat → Int32) (tw : Nat → Int32) (fx : Nat → Int32) (Q : Int32 → Prop) (h : wpX5_next fl Q) : Met l yX5_next (ws_ yX5_next cX5_next 1 (some .int)) { frames := 0, cells := 0, slots := 0, locals := 0 } (va_Pc ([.ref la] : List Value) (zPc D kk [zL la lt lf fl, zA (kk 0) lt 20 tw, zA (kk 0) lf 20 fx] sz)) (va_Qi (fun (r : Int32) (u : Unit) => Q r ) (zB D (va_A [zL la lt lf fl, zA (kk 0) lt 20 tw, zA (kk 0) lf 20 fx] sz) (fun u : Unit => [zL la lt lf fl, zA (kk 0) lt 20 tw, zA (kk 0) lf 20 fx])) (va_A [zL la lt lf fl, zA (kk 0) lt 20 tw, zA (kk 0) lf 20 fx] sz)) 0 0 (va_A [zL la lt lf fl, zA (kk 0) lt 20 tw, zA (kk 0) lf 20 fx] sz) := by
  refine zMet (Qc := fun A => va_Qi (fun (r : Int32) (u : Unit) => Q r ) (zB D A (fun u : Unit => [zL la lt lf fl, zA (kk 0) lt 20 tw, zA (kk 0) lf 20 fx])) A) (by decide) (Nat.le_of_ble_eq_true rfl) ?_
  intro p e s m below meth c A X hP hD hS ls hl
  obtain ⟨hx, hb, hr, hml, hown, hts, hlk, hnm, hK, hN, hA⟩ := X
  have hown : s.vm.findClass "LoseLeague$League" = some m.cls := hown
  have hl : lv_has ls 1 [(0, .ref la)] := hl
  unfold wpX5_next at h
  refine lv_aload_n hx hb dX5_next_0 rfl (lv_at hl 0 rfl) ?_
  refine va_get (D := D) (ci := 5) (v := .int (fl 2)) (C := RX5) (T := TX5) (N := 6) hx hb hts in_X5 hown hK hP 0 rfl rfl 2 (Nat.le_of_ble_eq_true rfl) (hts _ q136) (fun _ h9 => h9) rfl dX5_next_1 ?_
  refine lv_if_ne (tgt := 12) hx hb dX5_next_4 (by decide) (fun c_1 => ?_) (fun c_1 => ?_)
  · have h := h.2 c_1
    refine lv_aload_n hx hb dX5_next_12 rfl (lv_at hl 0 rfl) ?_
    refine va_get (D := D) (ci := 5) (v := .int (fl 4)) (C := RX5) (T := TX5) (N := 6) hx hb hts in_X5 hown hK hP 0 rfl rfl 4 (Nat.le_of_ble_eq_true rfl) (hts _ q141) (fun _ h9 => h9) rfl dX5_next_13 ?_
    refine lv_aload_n hx hb dX5_next_16 rfl (lv_at hl 0 rfl) ?_
    refine va_get (D := D) (ci := 5) (v := .int (fl 2)) (C := RX5) (T := TX5) (N := 6) hx hb hts in_X5 hown hK hP 0 rfl rfl 2 (Nat.le_of_ble_eq_true rfl) (hts _ q136) (fun _ h9 => h9) rfl dX5_next_17 ?_
    obtain ⟨hne, h⟩ := h
    refine lv_irem hx hb dX5_next_20 hne ?_
    exact zr_i hx hb hr hlk rfl hP hD hS () [0, 1, 2] rfl (by decide) dX5_next_21 h
  · have h := h.1 c_1
    refine lv_bipush (v := (-4 : Int32)) hx hb dX5_next_7 (by decide) ?_
    refine lv_goto (tgt := 21) hx hb dX5_next_9 (by decide) ?_
    exact zr_i hx hb hr hlk rfl hP hD hS () [0, 1, 2] rfl (by decide) dX5_next_21 h
def wbX5_sumOf_4 (fl : Nat → Int32) (tw : Nat → Int32) (p1 : Int32) (Q : Int32 → Prop) (k4 : Int32 → Int32 → Prop) (x2 : Int32) (x3 : Int32) : Prop :=
  (((fl 0) ≤ x3 → Q x2) ∧ (¬ (fl 0) ≤ x3 → (wpX5_of tw x3 p1 (fun r_2 => k4 (x2 + r_2) (x3 + 1)))))
def wpX5_sumOf_4 (fl : Nat → Int32) (tw : Nat → Int32) (p1 : Int32) (Q : Int32 → Prop) (n : Nat) : Int32 → Int32 → Prop :=
  Nat.rec (motive := fun _ => Int32 → Int32 → Prop) (fun _ _ => False) (fun _ k => wbX5_sumOf_4 fl tw p1 Q  k) n
def wpX5_sumOf (fl : Nat → Int32) (tw : Nat → Int32) (p1 : Int32) (Q : Int32 → Prop) : Prop :=
  (∃ n : Nat, wpX5_sumOf_4 fl tw p1 Q  n (0 : Int32) (0 : Int32))
set_option maxHeartbeats 4000000 in
theorem metX5_sumOf (l : Launch) (D : va_G) (kk : Nat → ClassId) (la : Nat) (lt : Nat) (lf : Nat) (sz : Nat) (fl : Nat → Int32) (tw : Nat → Int32) (fx : Nat → Int32) (p1 : Int32) (Q : Int32 → Prop) (h : wpX5_sumOf fl tw p1 Q) : Met l yX5_sumOf (ws_ yX5_sumOf cX5_sumOf 4 (some .int)) { frames := 1, cells := 0, slots := 0, locals := 22 } (va_Pc ([.ref la, .int p1] : List Value) (zPc D kk [zL la lt lf fl, zA (kk 0) lt 20 tw, zA (kk 0) lf 20 fx] sz)) (va_Qi (fun (r : Int32) (u : Unit) => Q r ) (zB D (va_A [zL la lt lf fl, zA (kk 0) lt 20 tw, zA (kk 0) lf 20 fx] sz) (fun u : Unit => [zL la lt lf fl, zA (kk 0) lt 20 tw, zA (kk 0) lf 20 fx])) (va_A [zL la lt lf fl, zA (kk 0) lt 20 tw, zA (kk 0) lf 20 fx] sz)) 0 0 (va_A [zL la lt lf fl, zA (kk 0) lt 20 tw, zA (kk 0) lf 20 fx] sz) := by
  refine zMet (Qc := fun A => va_Qi (fun (r : Int32) (u : Unit) => Q r ) (zB D A (fun u : Unit => [zL la lt lf fl, zA (kk 0) lt 20 tw, zA (kk 0) lf 20 fx])) A) (by decide) (Nat.le_of_ble_eq_true rfl) ?_
  intro p e s m below meth c A X hP hD hS ls hl
  obtain ⟨hx, hb, hr, hml, hown, hts, hlk, hnm, hK, hN, hA⟩ := X
  have hown : s.vm.findClass "LoseLeague$League" = some m.cls := hown
  have hl : lv_has ls 4 [(0, .ref la), (1, .int p1)] := hl
  unfold wpX5_sumOf at h
  refine lv_iconst (v := (0 : Int32)) hx hb dX5_sumOf_0 (by decide) ?_
  refine lv_istore_n (lv' := [(2, .int (0 : Int32)), (0, .ref la), (1, .int p1)]) hx hb dX5_sumOf_1 rfl hl (by decide) rfl (fun ls hl => ?_)
  refine lv_iconst (v := (0 : Int32)) hx hb dX5_sumOf_2 (by decide) ?_
  have cut_4 : ∀ (nl4 : Nat) (x2 : Int32) (x3 : Int32), wpX5_sumOf_4 fl tw p1 Q  nl4 x2 x3 → ∀ (H : Heap) (locs : List Loc), va_P D vwCl [zL la lt lf fl, zA (kk 0) lt 20 tw, zA (kk 0) lf 20 fx] H → va_D A [zL la lt lf fl, zA (kk 0) lt 20 tw, zA (kk 0) lf 20 fx] → va_S A s.heap H locs → ∀ ls : Array Slot, lv_has ls 4 [(2, .int x2), (3, .int x3), (0, .ref la), (1, .int p1)] → W p l e { frames := 1, cells := 0, slots := 0, locals := 22 } s m ([.ref la, .int p1] : List Value).toArray below meth c H locs 0 0 (MQ below (va_Qi (fun (r : Int32) (u : Unit) => Q r ) (zB D A (fun u : Unit => [zL la lt lf fl, zA (kk 0) lt 20 tw, zA (kk 0) lf 20 fx])) A) ([.ref la, .int p1] : List Value).toArray s 0 0 A) (F0 m 4 ls []) := by
    intro nl4
    induction nl4 with
    | zero => intro x2 x3 h; exact absurd h id
    | succ nl4 ih_4 =>
      intro x2 x3 h H locs hP hD hS ls hl
      have h : wbX5_sumOf_4 fl tw p1 Q  (wpX5_sumOf_4 fl tw p1 Q  nl4) x2 x3 := h
      unfold wbX5_sumOf_4 at h
      refine lv_iload_n hx hb dX5_sumOf_4 rfl (lv_at hl 1 rfl) ?_
      refine lv_aload_n hx hb dX5_sumOf_5 rfl (lv_at hl 2 rfl) ?_
      refine va_get (D := D) (ci := 5) (v := .int (fl 0)) (C := RX5) (T := TX5) (N := 6) hx hb hts in_X5 hown hK hP 0 rfl rfl 0 (Nat.le_of_ble_eq_true rfl) (hts _ q132) (fun _ h9 => h9) rfl dX5_sumOf_6 ?_
      refine lv_icmp_ge (tgt := 27) hx hb dX5_sumOf_9 (by decide) (fun c_1 => ?_) (fun c_1 => ?_)
      · have h := h.1 c_1
        refine lv_iload_n hx hb dX5_sumOf_27 rfl (lv_at hl 0 rfl) ?_
        exact zr_i hx hb hr hlk rfl hP hD hS () [0, 1, 2] rfl (by decide) dX5_sumOf_28 h
      · have h := h.2 c_1
        refine lv_iload_n hx hb dX5_sumOf_12 rfl (lv_at hl 0 rfl) ?_
        refine lv_aload_n hx hb dX5_sumOf_13 rfl (lv_at hl 2 rfl) ?_
        refine lv_iload_n hx hb dX5_sumOf_14 rfl (lv_at hl 1 rfl) ?_
        refine lv_iload_n hx hb dX5_sumOf_15 rfl (lv_at hl 3 rfl) ?_
        have hrc := va_recv hK hP (ci := 5) (q0 := 0) rfl rfl
        refine zc_i (wc := [zL la lt lf fl, zA (kk 0) lt 20 tw, zA (kk 0) lf 20 fx]) (wr := []) (w1 := (fun u : Unit => [zL la lt lf fl, zA (kk 0) lt 20 tw, zA (kk 0) lf 20 fx])) (rest := [.int x2]) [0, 1, 2] [] rfl rfl (by decide) (by decide) (by decide) hA hP hD hS (fun hP hD => va_runV (As := [.int x3, .int p1]) (rest := [.int x2]) ⟨hx, hb, hml, hown, hts⟩ (metX5_of l D kk la lt lf _ fl tw fx x3 p1 _ h) (cwV 2 hts (lw_V q512 q513 q514 q69 q515) rfl rfl rfl pdX5_of ⟨(Nat.le_of_ble_eq_true rfl), (Nat.le_of_ble_eq_true rfl)⟩) (zp_V hK hN hrc hP hD) rfl rfl hl.1 rfl (lv_room (Nat.le_of_ble_eq_true rfl)) dX5_sumOf_16 ⟨(Nat.le_of_ble_eq_true rfl), (Nat.le_of_ble_eq_true rfl)⟩) (fun r_2 u H locs h hP hD hS => ?_)
        try dsimp only at h
        have hP : va_P D vwCl [zL la lt lf fl, zA (kk 0) lt 20 tw, zA (kk 0) lf 20 fx] H := hP
        have hD : va_D A [zL la lt lf fl, zA (kk 0) lt 20 tw, zA (kk 0) lf 20 fx] := hD
        refine lv_iadd hx hb dX5_sumOf_19 ?_
        refine lv_istore_n (lv' := [(2, .int (x2 + r_2)), (3, .int x3), (0, .ref la), (1, .int p1)]) hx hb dX5_sumOf_20 rfl hl (by decide) rfl (fun ls hl => ?_)
        refine lv_iinc (v := (x3 + 1)) (lv' := [(3, .int (x3 + 1)), (2, .int (x2 + r_2)), (0, .ref la), (1, .int p1)]) hx hb dX5_sumOf_21 hl (k := 1) rfl rfl (by decide) rfl (fun ls hl => ?_)
        refine lv_goto (tgt := 4) hx hb dX5_sumOf_24 (by decide) ?_
        exact ih_4 (x2 + r_2) (x3 + 1) h _ _ hP hD hS _ (lv_sub hl [1, 0, 2, 3] rfl)
  refine lv_istore_n (lv' := [(3, .int (0 : Int32)), (2, .int (0 : Int32)), (0, .ref la), (1, .int p1)]) hx hb dX5_sumOf_3 rfl hl (by decide) rfl (fun ls hl => ?_)
  obtain ⟨n_4, h⟩ := h
  exact cut_4 n_4 (0 : Int32) (0 : Int32) h _ _ hP hD hS _ (lv_sub hl [1, 0, 2, 3] rfl)
def wpX5_beaten_29 (fl : Nat → Int32) (tw : Nat → Int32) (Q : Int32 → Prop) (k4 : Int32 → Int32 → Prop) (x2 : Int32) (s1 : Int32) (s0 : Int32) : Prop :=
  k4 (s0 ||| s1) (x2 + 1)
def wbX5_beaten_4 (fl : Nat → Int32) (tw : Nat → Int32) (Q : Int32 → Prop) (k4 : Int32 → Int32 → Prop) (x1 : Int32) (x2 : Int32) : Prop :=
  (((fl 0) ≤ x2 → Q x1) ∧ (¬ (fl 0) ≤ x2 → (wpX5_of tw x2 (2 : Int32) (fun r_2 => ((r_2 ≤ 0 → wpX5_beaten_29 fl tw Q k4 x2 (0 : Int32) x1) ∧ (¬ r_2 ≤ 0 → wpX5_beaten_29 fl tw Q k4 x2 ((1 : Int32) <<< (x2 &&& 31)) x1))))))
def wpX5_beaten_4 (fl : Nat → Int32) (tw : Nat → Int32) (Q : Int32 → Prop) (n : Nat) : Int32 → Int32 → Prop :=
  Nat.rec (motive := fun _ => Int32 → Int32 → Prop) (fun _ _ => False) (fun _ k => wbX5_beaten_4 fl tw Q  k) n
def wpX5_beaten (fl : Nat → Int32) (tw : Nat → Int32) (Q : Int32 → Prop) : Prop :=
  (∃ n : Nat, wpX5_beaten_4 fl tw Q  n (0 : Int32) (0 : Int32))
set_option maxHeartbeats 4000000 in
theorem metX5_beaten (l : Launch) (D : va_G) (kk : Nat → ClassId) (la : Nat) (lt : Nat) (lf : Nat) (sz : Nat) (fl : Nat → Int32) (tw : Nat → Int32) (fx : Nat → Int32) (Q : Int32 → Prop) (h : wpX5_beaten fl tw Q) : Met l yX5_beaten (ws_ yX5_beaten cX5_beaten 3 (some .int)) { frames := 1, cells := 0, slots := 0, locals := 22 } (va_Pc ([.ref la] : List Value) (zPc D kk [zL la lt lf fl, zA (kk 0) lt 20 tw, zA (kk 0) lf 20 fx] sz)) (va_Qi (fun (r : Int32) (u : Unit) => Q r ) (zB D (va_A [zL la lt lf fl, zA (kk 0) lt 20 tw, zA (kk 0) lf 20 fx] sz) (fun u : Unit => [zL la lt lf fl, zA (kk 0) lt 20 tw, zA (kk 0) lf 20 fx])) (va_A [zL la lt lf fl, zA (kk 0) lt 20 tw, zA (kk 0) lf 20 fx] sz)) 0 0 (va_A [zL la lt lf fl, zA (kk 0) lt 20 tw, zA (kk 0) lf 20 fx] sz) := by
  refine zMet (Qc := fun A => va_Qi (fun (r : Int32) (u : Unit) => Q r ) (zB D A (fun u : Unit => [zL la lt lf fl, zA (kk 0) lt 20 tw, zA (kk 0) lf 20 fx])) A) (by decide) (Nat.le_of_ble_eq_true rfl) ?_
  intro p e s m below meth c A X hP hD hS ls hl
  obtain ⟨hx, hb, hr, hml, hown, hts, hlk, hnm, hK, hN, hA⟩ := X
  have hown : s.vm.findClass "LoseLeague$League" = some m.cls := hown
  have hl : lv_has ls 3 [(0, .ref la)] := hl
  unfold wpX5_beaten at h
  refine lv_iconst (v := (0 : Int32)) hx hb dX5_beaten_0 (by decide) ?_
  refine lv_istore_n (lv' := [(1, .int (0 : Int32)), (0, .ref la)]) hx hb dX5_beaten_1 rfl hl (by decide) rfl (fun ls hl => ?_)
  refine lv_iconst (v := (0 : Int32)) hx hb dX5_beaten_2 (by decide) ?_
  have cut_4 : ∀ (nl4 : Nat) (x1 : Int32) (x2 : Int32), wpX5_beaten_4 fl tw Q  nl4 x1 x2 → ∀ (H : Heap) (locs : List Loc), va_P D vwCl [zL la lt lf fl, zA (kk 0) lt 20 tw, zA (kk 0) lf 20 fx] H → va_D A [zL la lt lf fl, zA (kk 0) lt 20 tw, zA (kk 0) lf 20 fx] → va_S A s.heap H locs → ∀ ls : Array Slot, lv_has ls 3 [(1, .int x1), (2, .int x2), (0, .ref la)] → W p l e { frames := 1, cells := 0, slots := 0, locals := 22 } s m ([.ref la] : List Value).toArray below meth c H locs 0 0 (MQ below (va_Qi (fun (r : Int32) (u : Unit) => Q r ) (zB D A (fun u : Unit => [zL la lt lf fl, zA (kk 0) lt 20 tw, zA (kk 0) lf 20 fx])) A) ([.ref la] : List Value).toArray s 0 0 A) (F0 m 4 ls []) := by
    intro nl4
    induction nl4 with
    | zero => intro x1 x2 h; exact absurd h id
    | succ nl4 ih_4 =>
      intro x1 x2 h H locs hP hD hS ls hl
      have h : wbX5_beaten_4 fl tw Q  (wpX5_beaten_4 fl tw Q  nl4) x1 x2 := h
      unfold wbX5_beaten_4 at h
      refine lv_iload_n hx hb dX5_beaten_4 rfl (lv_at hl 1 rfl) ?_
      refine lv_aload_n hx hb dX5_beaten_5 rfl (lv_at hl 2 rfl) ?_
      refine va_get (D := D) (ci := 5) (v := .int (fl 0)) (C := RX5) (T := TX5) (N := 6) hx hb hts in_X5 hown hK hP 0 rfl rfl 0 (Nat.le_of_ble_eq_true rfl) (hts _ q132) (fun _ h9 => h9) rfl dX5_beaten_6 ?_
      refine lv_icmp_ge (tgt := 37) hx hb dX5_beaten_9 (by decide) (fun c_1 => ?_) (fun c_1 => ?_)
      · have h := h.1 c_1
        refine lv_iload_n hx hb dX5_beaten_37 rfl (lv_at hl 0 rfl) ?_
        exact zr_i hx hb hr hlk rfl hP hD hS () [0, 1, 2] rfl (by decide) dX5_beaten_38 h
      · have h := h.2 c_1
        refine lv_iload_n hx hb dX5_beaten_12 rfl (lv_at hl 0 rfl) ?_
        refine lv_aload_n hx hb dX5_beaten_13 rfl (lv_at hl 2 rfl) ?_
        refine lv_iload_n hx hb dX5_beaten_14 rfl (lv_at hl 1 rfl) ?_
        refine lv_iconst (v := (2 : Int32)) hx hb dX5_beaten_15 (by decide) ?_
        have hrc := va_recv hK hP (ci := 5) (q0 := 0) rfl rfl
        refine zc_i (wc := [zL la lt lf fl, zA (kk 0) lt 20 tw, zA (kk 0) lf 20 fx]) (wr := []) (w1 := (fun u : Unit => [zL la lt lf fl, zA (kk 0) lt 20 tw, zA (kk 0) lf 20 fx])) (rest := [.int x1]) [0, 1, 2] [] rfl rfl (by decide) (by decide) (by decide) hA hP hD hS (fun hP hD => va_runV (As := [.int x2, .int (2 : Int32)]) (rest := [.int x1]) ⟨hx, hb, hml, hown, hts⟩ (metX5_of l D kk la lt lf _ fl tw fx x2 (2 : Int32) _ h) (cwV 2 hts (lw_V q512 q513 q514 q69 q515) rfl rfl rfl pdX5_of ⟨(Nat.le_of_ble_eq_true rfl), (Nat.le_of_ble_eq_true rfl)⟩) (zp_V hK hN hrc hP hD) rfl rfl hl.1 rfl (lv_room (Nat.le_of_ble_eq_true rfl)) dX5_beaten_16 ⟨(Nat.le_of_ble_eq_true rfl), (Nat.le_of_ble_eq_true rfl)⟩) (fun r_2 u H locs h hP hD hS => ?_)
        try dsimp only at h
        have hP : va_P D vwCl [zL la lt lf fl, zA (kk 0) lt 20 tw, zA (kk 0) lf 20 fx] H := hP
        have hD : va_D A [zL la lt lf fl, zA (kk 0) lt 20 tw, zA (kk 0) lf 20 fx] := hD
        have cut_29 : ∀ (x2 : Int32) (s1 : Int32) (s0 : Int32), wpX5_beaten_29 fl tw Q (wpX5_beaten_4 fl tw Q  nl4) x2 s1 s0 → ∀ (H : Heap) (locs : List Loc), va_P D vwCl [zL la lt lf fl, zA (kk 0) lt 20 tw, zA (kk 0) lf 20 fx] H → va_D A [zL la lt lf fl, zA (kk 0) lt 20 tw, zA (kk 0) lf 20 fx] → va_S A s.heap H locs → ∀ ls : Array Slot, lv_has ls 3 [(2, .int x2), (0, .ref la)] → W p l e { frames := 1, cells := 0, slots := 0, locals := 22 } s m ([.ref la] : List Value).toArray below meth c H locs 0 0 (MQ below (va_Qi (fun (r : Int32) (u : Unit) => Q r ) (zB D A (fun u : Unit => [zL la lt lf fl, zA (kk 0) lt 20 tw, zA (kk 0) lf 20 fx])) A) ([.ref la] : List Value).toArray s 0 0 A) (F0 m 29 ls [.int s1, .int s0]) := by
          intro x2 s1 s0 h H locs hP hD hS ls hl
          unfold wpX5_beaten_29 at h
          refine lv_ior hx hb dX5_beaten_29 ?_
          refine lv_istore_n (lv' := [(1, .int (s0 ||| s1)), (2, .int x2), (0, .ref la)]) hx hb dX5_beaten_30 rfl hl (by decide) rfl (fun ls hl => ?_)
          refine lv_iinc (v := (x2 + 1)) (lv' := [(2, .int (x2 + 1)), (1, .int (s0 ||| s1)), (0, .ref la)]) hx hb dX5_beaten_31 hl (k := 1) rfl rfl (by decide) rfl (fun ls hl => ?_)
          refine lv_goto (tgt := 4) hx hb dX5_beaten_34 (by decide) ?_
          exact ih_4 (s0 ||| s1) (x2 + 1) h _ _ hP hD hS _ (lv_sub hl [1, 0, 2] rfl)
        refine lv_if_le (tgt := 28) hx hb dX5_beaten_19 (by decide) (fun c_3 => ?_) (fun c_3 => ?_)
        · have h := h.1 c_3
          refine lv_iconst (v := (0 : Int32)) hx hb dX5_beaten_28 (by decide) ?_
          exact cut_29 x2 (0 : Int32) x1 h _ _ hP hD hS _ (lv_sub hl [1, 2] rfl)
        · have h := h.2 c_3
          refine lv_iconst (v := (1 : Int32)) hx hb dX5_beaten_22 (by decide) ?_
          refine lv_iload_n hx hb dX5_beaten_23 rfl (lv_at hl 1 rfl) ?_
          refine lv_ishl hx hb dX5_beaten_24 ?_
          refine lv_goto (tgt := 29) hx hb dX5_beaten_25 (by decide) ?_
          exact cut_29 x2 ((1 : Int32) <<< (x2 &&& 31)) x1 h _ _ hP hD hS _ (lv_sub hl [1, 2] rfl)
  refine lv_istore_n (lv' := [(2, .int (0 : Int32)), (1, .int (0 : Int32)), (0, .ref la)]) hx hb dX5_beaten_3 rfl hl (by decide) rfl (fun ls hl => ?_)
  obtain ⟨n_4, h⟩ := h
  exact cut_4 n_4 (0 : Int32) (0 : Int32) h _ _ hP hD hS _ (lv_sub hl [1, 0, 2] rfl)
def wpX5_isOver_27 (fl : Nat → Int32) (Q : (Nat → Int32) → Prop) (k2 : (Nat → Int32) → Int32 → Prop) (tw : Nat → Int32) (x1 : Int32) (s3 : Int32) (s2 : Int32) (s1 : Int32) : Prop :=
  (wpX5_grows tw s1 s2 s3 (99 : Int32) (fun tw_4 => (wpX5_becomes tw_4 x1 (2 : Int32) (0 : Int32) (fun tw_6 => k2 tw_6 (x1 + 1)))))
def wbX5_isOver_2 (fl : Nat → Int32) (Q : (Nat → Int32) → Prop) (k2 : (Nat → Int32) → Int32 → Prop) (tw : Nat → Int32) (x1 : Int32) : Prop :=
  (((fl 0) ≤ x1 → Q tw) ∧ (¬ (fl 0) ≤ x1 → (wpX5_of tw x1 (2 : Int32) (fun r_2 => ((r_2 = 0 → wpX5_isOver_27 fl Q k2 tw x1 (1 : Int32) (3 : Int32) x1) ∧ (¬ r_2 = 0 → wpX5_isOver_27 fl Q k2 tw x1 (0 : Int32) (3 : Int32) x1))))))
def wpX5_isOver_2 (fl : Nat → Int32) (Q : (Nat → Int32) → Prop) (n : Nat) : (Nat → Int32) → Int32 → Prop :=
  Nat.rec (motive := fun _ => (Nat → Int32) → Int32 → Prop) (fun _ _ => False) (fun _ k => wbX5_isOver_2 fl Q  k) n
def wpX5_isOver (fl : Nat → Int32) (tw : Nat → Int32) (Q : (Nat → Int32) → Prop) : Prop :=
  (∃ n : Nat, wpX5_isOver_2 fl Q  n tw (0 : Int32))
set_option maxHeartbeats 4000000 in
theorem metX5_isOver (l : Launch) (D : va_G) (kk : Nat → ClassId) (la : Nat) (lt : Nat) (lf : Nat) (sz : Nat) (fl : Nat → Int32) (tw : Nat → Int32) (fx : Nat → Int32) (Q : (Nat → Int32) → Prop) (h : wpX5_isOver fl tw Q) : Met l yX5_isOver (ws_ yX5_isOver cX5_isOver 2 none) { frames := 2, cells := 0, slots := 0, locals := 47 } (va_Pc ([.ref la] : List Value) (zPc D kk [zL la lt lf fl, zA (kk 0) lt 20 tw, zA (kk 0) lf 20 fx] sz)) (va_Qv (fun (u : (Nat → Int32)) => Q u) (zB D (va_A [zL la lt lf fl, zA (kk 0) lt 20 tw, zA (kk 0) lf 20 fx] sz) (fun u : (Nat → Int32) => [zL la lt lf fl, zA (kk 0) lt 20 u, zA (kk 0) lf 20 fx])) (va_A [zL la lt lf fl, zA (kk 0) lt 20 tw, zA (kk 0) lf 20 fx] sz)) 0 0 (va_A [zL la lt lf fl, zA (kk 0) lt 20 tw, zA (kk 0) lf 20 fx] sz) := by
  refine zMet (Qc := fun A => va_Qv (fun (u : (Nat → Int32)) => Q u) (zB D A (fun u : (Nat → Int32) => [zL la lt lf fl, zA (kk 0) lt 20 u, zA (kk 0) lf 20 fx])) A) (by decide) (Nat.le_of_ble_eq_true rfl) ?_
  intro p e s m below meth c A X hP hD hS ls hl
  obtain ⟨hx, hb, hr, hml, hown, hts, hlk, hnm, hK, hN, hA⟩ := X
  have hown : s.vm.findClass "LoseLeague$League" = some m.cls := hown
  have hl : lv_has ls 2 [(0, .ref la)] := hl
  unfold wpX5_isOver at h
  refine lv_iconst (v := (0 : Int32)) hx hb dX5_isOver_0 (by decide) ?_
  have cut_2 : ∀ (nl2 : Nat) (tw : Nat → Int32) (x1 : Int32), wpX5_isOver_2 fl Q  nl2 tw x1 → ∀ (H : Heap) (locs : List Loc), va_P D vwCl [zL la lt lf fl, zA (kk 0) lt 20 tw, zA (kk 0) lf 20 fx] H → va_D A [zL la lt lf fl, zA (kk 0) lt 20 tw, zA (kk 0) lf 20 fx] → va_S A s.heap H locs → ∀ ls : Array Slot, lv_has ls 2 [(1, .int x1), (0, .ref la)] → W p l e { frames := 2, cells := 0, slots := 0, locals := 47 } s m ([.ref la] : List Value).toArray below meth c H locs 0 0 (MQ below (va_Qv (fun (u : (Nat → Int32)) => Q u) (zB D A (fun u : (Nat → Int32) => [zL la lt lf fl, zA (kk 0) lt 20 u, zA (kk 0) lf 20 fx])) A) ([.ref la] : List Value).toArray s 0 0 A) (F0 m 2 ls []) := by
    intro nl2
    induction nl2 with
    | zero => intro tw x1 h; exact absurd h id
    | succ nl2 ih_2 =>
      intro tw x1 h H locs hP hD hS ls hl
      have h : wbX5_isOver_2 fl Q  (wpX5_isOver_2 fl Q  nl2) tw x1 := h
      unfold wbX5_isOver_2 at h
      refine lv_iload_n hx hb dX5_isOver_2 rfl (lv_at hl 0 rfl) ?_
      refine lv_aload_n hx hb dX5_isOver_3 rfl (lv_at hl 1 rfl) ?_
      refine va_get (D := D) (ci := 5) (v := .int (fl 0)) (C := RX5) (T := TX5) (N := 6) hx hb hts in_X5 hown hK hP 0 rfl rfl 0 (Nat.le_of_ble_eq_true rfl) (hts _ q132) (fun _ h9 => h9) rfl dX5_isOver_4 ?_
      refine lv_icmp_ge (tgt := 45) hx hb dX5_isOver_7 (by decide) (fun c_1 => ?_) (fun c_1 => ?_)
      · have h := h.1 c_1
        exact zr_v hx hb hr hlk hP hD hS (tw) [0, 1, 2] rfl (by decide) dX5_isOver_45 h
      · have h := h.2 c_1
        refine lv_aload_n hx hb dX5_isOver_10 rfl (lv_at hl 1 rfl) ?_
        refine lv_iload_n hx hb dX5_isOver_11 rfl (lv_at hl 0 rfl) ?_
        refine lv_iconst (v := (3 : Int32)) hx hb dX5_isOver_12 (by decide) ?_
        refine lv_aload_n hx hb dX5_isOver_13 rfl (lv_at hl 1 rfl) ?_
        refine lv_iload_n hx hb dX5_isOver_14 rfl (lv_at hl 0 rfl) ?_
        refine lv_iconst (v := (2 : Int32)) hx hb dX5_isOver_15 (by decide) ?_
        have hrc := va_recv hK hP (ci := 5) (q0 := 0) rfl rfl
        refine zc_i (wc := [zL la lt lf fl, zA (kk 0) lt 20 tw, zA (kk 0) lf 20 fx]) (wr := []) (w1 := (fun u : Unit => [zL la lt lf fl, zA (kk 0) lt 20 tw, zA (kk 0) lf 20 fx])) (rest := [.int (3 : Int32), .int x1, .ref la]) [0, 1, 2] [] rfl rfl (by decide) (by decide) (by decide) hA hP hD hS (fun hP hD => va_runV (As := [.int x1, .int (2 : Int32)]) (rest := [.int (3 : Int32), .int x1, .ref la]) ⟨hx, hb, hml, hown, hts⟩ (metX5_of l D kk la lt lf _ fl tw fx x1 (2 : Int32) _ h) (cwV 2 hts (lw_V q512 q513 q514 q69 q515) rfl rfl rfl pdX5_of ⟨(Nat.le_of_ble_eq_true rfl), (Nat.le_of_ble_eq_true rfl)⟩) (zp_V hK hN hrc hP hD) rfl rfl hl.1 rfl (lv_room (Nat.le_of_ble_eq_true rfl)) dX5_isOver_16 ⟨(Nat.le_of_ble_eq_true rfl), (Nat.le_of_ble_eq_true rfl)⟩) (fun r_2 u H locs h hP hD hS => ?_)
        try dsimp only at h
        have hP : va_P D vwCl [zL la lt lf fl, zA (kk 0) lt 20 tw, zA (kk 0) lf 20 fx] H := hP
        have hD : va_D A [zL la lt lf fl, zA (kk 0) lt 20 tw, zA (kk 0) lf 20 fx] := hD
        have cut_27 : ∀ (tw : Nat → Int32) (x1 : Int32) (s3 : Int32) (s2 : Int32) (s1 : Int32), wpX5_isOver_27 fl Q (wpX5_isOver_2 fl Q  nl2) tw x1 s3 s2 s1 → ∀ (H : Heap) (locs : List Loc), va_P D vwCl [zL la lt lf fl, zA (kk 0) lt 20 tw, zA (kk 0) lf 20 fx] H → va_D A [zL la lt lf fl, zA (kk 0) lt 20 tw, zA (kk 0) lf 20 fx] → va_S A s.heap H locs → ∀ ls : Array Slot, lv_has ls 2 [(1, .int x1), (0, .ref la)] → W p l e { frames := 2, cells := 0, slots := 0, locals := 47 } s m ([.ref la] : List Value).toArray below meth c H locs 0 0 (MQ below (va_Qv (fun (u : (Nat → Int32)) => Q u) (zB D A (fun u : (Nat → Int32) => [zL la lt lf fl, zA (kk 0) lt 20 u, zA (kk 0) lf 20 fx])) A) ([.ref la] : List Value).toArray s 0 0 A) (F0 m 27 ls [.int s3, .int s2, .int s1, .ref la]) := by
          intro tw x1 s3 s2 s1 h H locs hP hD hS ls hl
          unfold wpX5_isOver_27 at h
          refine lv_bipush (v := (99 : Int32)) hx hb dX5_isOver_27 (by decide) ?_
          have hrc := va_recv hK hP (ci := 5) (q0 := 0) rfl rfl
          refine zc_v (wc := [zL la lt lf fl, zA (kk 0) lt 20 tw, zA (kk 0) lf 20 fx]) (wr := []) (w1 := (fun u : (Nat → Int32) => [zL la lt lf fl, zA (kk 0) lt 20 u, zA (kk 0) lf 20 fx])) (rest := []) [0, 1, 2] [] rfl rfl (by decide) (by decide) (by decide) hA hP hD hS (fun hP hD => va_runV (As := [.int s1, .int s2, .int s3, .int (99 : Int32)]) (rest := []) ⟨hx, hb, hml, hown, hts⟩ (metX5_grows l D kk la lt lf _ fl tw fx s1 s2 s3 (99 : Int32) _ h) (cwV 4 hts (lw_V q651 q620 q621 q69 q622) rfl rfl rfl pdX5_grows ⟨(Nat.le_of_ble_eq_true rfl), (Nat.le_of_ble_eq_true rfl)⟩) (zp_V hK hN hrc hP hD) rfl rfl hl.1 rfl (lv_room (Nat.le_of_ble_eq_true rfl)) dX5_isOver_29 ⟨(Nat.le_of_ble_eq_true rfl), (Nat.le_of_ble_eq_true rfl)⟩) (fun u H locs h hP hD hS => ?_)
          obtain ⟨tw_4, rfl⟩ : ∃ z, z = u := ⟨_, rfl⟩
          try dsimp only at h
          have hP : va_P D vwCl [zL la lt lf fl, zA (kk 0) lt 20 tw_4, zA (kk 0) lf 20 fx] H := hP
          have hD : va_D A [zL la lt lf fl, zA (kk 0) lt 20 tw_4, zA (kk 0) lf 20 fx] := hD
          refine lv_aload_n hx hb dX5_isOver_32 rfl (lv_at hl 1 rfl) ?_
          refine lv_iload_n hx hb dX5_isOver_33 rfl (lv_at hl 0 rfl) ?_
          refine lv_iconst (v := (2 : Int32)) hx hb dX5_isOver_34 (by decide) ?_
          refine lv_iconst (v := (0 : Int32)) hx hb dX5_isOver_35 (by decide) ?_
          have hrc := va_recv hK hP (ci := 5) (q0 := 0) rfl rfl
          refine zc_v (wc := [zL la lt lf fl, zA (kk 0) lt 20 tw_4, zA (kk 0) lf 20 fx]) (wr := []) (w1 := (fun u : (Nat → Int32) => [zL la lt lf fl, zA (kk 0) lt 20 u, zA (kk 0) lf 20 fx])) (rest := []) [0, 1, 2] [] rfl rfl (by decide) (by decide) (by decide) hA hP hD hS (fun hP hD => va_runV (As := [.int x1, .int (2 : Int32), .int (0 : Int32)]) (rest := []) ⟨hx, hb, hml, hown, hts⟩ (metX5_becomes l D kk la lt lf _ fl tw_4 fx x1 (2 : Int32) (0 : Int32) _ h) (cwV 3 hts (lw_V q485 q486 q487 q69 q488) rfl rfl rfl pdX5_becomes ⟨(Nat.le_of_ble_eq_true rfl), (Nat.le_of_ble_eq_true rfl)⟩) (zp_V hK hN hrc hP hD) rfl rfl hl.1 rfl (lv_room (Nat.le_of_ble_eq_true rfl)) dX5_isOver_36 ⟨(Nat.le_of_ble_eq_true rfl), (Nat.le_of_ble_eq_true rfl)⟩) (fun u H locs h hP hD hS => ?_)
          obtain ⟨tw_6, rfl⟩ : ∃ z, z = u := ⟨_, rfl⟩
          try dsimp only at h
          have hP : va_P D vwCl [zL la lt lf fl, zA (kk 0) lt 20 tw_6, zA (kk 0) lf 20 fx] H := hP
          have hD : va_D A [zL la lt lf fl, zA (kk 0) lt 20 tw_6, zA (kk 0) lf 20 fx] := hD
          refine lv_iinc (v := (x1 + 1)) (lv' := [(1, .int (x1 + 1)), (0, .ref la)]) hx hb dX5_isOver_39 hl (k := 0) rfl rfl (by decide) rfl (fun ls hl => ?_)
          refine lv_goto (tgt := 2) hx hb dX5_isOver_42 (by decide) ?_
          exact ih_2 tw_6 (x1 + 1) h _ _ hP hD hS _ (lv_sub hl [0, 1] rfl)
        refine lv_if_ne (tgt := 26) hx hb dX5_isOver_19 (by decide) (fun c_7 => ?_) (fun c_7 => ?_)
        · have h := h.2 c_7
          refine lv_iconst (v := (0 : Int32)) hx hb dX5_isOver_26 (by decide) ?_
          exact cut_27 tw x1 (0 : Int32) (3 : Int32) x1 h _ _ hP hD hS _ (lv_sub hl [0, 1] rfl)
        · have h := h.1 c_7
          refine lv_iconst (v := (1 : Int32)) hx hb dX5_isOver_22 (by decide) ?_
          refine lv_goto (tgt := 27) hx hb dX5_isOver_23 (by decide) ?_
          exact cut_27 tw x1 (1 : Int32) (3 : Int32) x1 h _ _ hP hD hS _ (lv_sub hl [0, 1] rfl)
  refine lv_istore_n (lv' := [(1, .int (0 : Int32)), (0, .ref la)]) hx hb dX5_isOver_1 rfl hl (by decide) rfl (fun ls hl => ?_)
  obtain ⟨n_2, h⟩ := h
  exact cut_2 n_2 tw (0 : Int32) h _ _ hP hD hS _ (lv_sub hl [0, 1] rfl)
def wpX5_as (fl : Nat → Int32) (tw : Nat → Int32) (fx : Nat → Int32) (fl2 : Nat → Int32) (tw2 : Nat → Int32) (fx2 : Nat → Int32) (Q : (Nat → Int32) → (Nat → Int32) → (Nat → Int32) → Prop) : Prop :=
  ((∀ i, i < (20 : Int32).toNatClampNeg → fits .byte (.int (tw2 ((0 : Int32).toNatClampNeg + i))) = true) ∧ ((∀ i, i < (20 : Int32).toNatClampNeg → fits .byte (.int (fx2 ((0 : Int32).toNatClampNeg + i))) = true) ∧ Q (upd (upd (upd (upd fl 0 (fl2 0)) 2 (fl2 2)) 4 (fl2 4)) 5 (fl2 5)) (va_cpy tw2 tw (0 : Int32).toNatClampNeg (0 : Int32).toNatClampNeg (20 : Int32).toNatClampNeg) (va_cpy fx2 fx (0 : Int32).toNatClampNeg (0 : Int32).toNatClampNeg (20 : Int32).toNatClampNeg)))
set_option maxHeartbeats 4000000 in
theorem metX5_as (l : Launch) (D : va_G) (kk : Nat → ClassId) (la : Nat) (lt : Nat) (lf : Nat) (la2 : Nat) (lt2 : Nat) (lf2 : Nat) (sz : Nat) (fl : Nat → Int32) (tw : Nat → Int32) (fx : Nat → Int32) (fl2 : Nat → Int32) (tw2 : Nat → Int32) (fx2 : Nat → Int32) (Q : (Nat → Int32) → (Nat → Int32) → (Nat → Int32) → Prop) (h : wpX5_as fl tw fx fl2 tw2 fx2 Q) : Met l yX5_as (ws_ yX5_as cX5_as 2 none) { frames := 1, cells := 0, slots := 0, locals := 18 } (va_Pc ([.ref la, .ref la2] : List Value) (zPc D kk [zL la lt lf fl, zA (kk 0) lt 20 tw, zA (kk 0) lf 20 fx, zL la2 lt2 lf2 fl2, zA (kk 0) lt2 20 tw2, zA (kk 0) lf2 20 fx2] sz)) (va_Qv (fun (u : (Nat → Int32) × (Nat → Int32) × (Nat → Int32)) => Q u.1 u.2.1 u.2.2) (zB D (va_A [zL la lt lf fl, zA (kk 0) lt 20 tw, zA (kk 0) lf 20 fx, zL la2 lt2 lf2 fl2, zA (kk 0) lt2 20 tw2, zA (kk 0) lf2 20 fx2] sz) (fun u : (Nat → Int32) × (Nat → Int32) × (Nat → Int32) => [zL la lt lf u.1, zA (kk 0) lt 20 u.2.1, zA (kk 0) lf 20 u.2.2, zL la2 lt2 lf2 fl2, zA (kk 0) lt2 20 tw2, zA (kk 0) lf2 20 fx2])) (va_A [zL la lt lf fl, zA (kk 0) lt 20 tw, zA (kk 0) lf 20 fx, zL la2 lt2 lf2 fl2, zA (kk 0) lt2 20 tw2, zA (kk 0) lf2 20 fx2] sz)) 0 0 (va_A [zL la lt lf fl, zA (kk 0) lt 20 tw, zA (kk 0) lf 20 fx, zL la2 lt2 lf2 fl2, zA (kk 0) lt2 20 tw2, zA (kk 0) lf2 20 fx2] sz) := by
  refine zMet (Qc := fun A => va_Qv (fun (u : (Nat → Int32) × (Nat → Int32) × (Nat → Int32)) => Q u.1 u.2.1 u.2.2) (zB D A (fun u : (Nat → Int32) × (Nat → Int32) × (Nat → Int32) => [zL la lt lf u.1, zA (kk 0) lt 20 u.2.1, zA (kk 0) lf 20 u.2.2, zL la2 lt2 lf2 fl2, zA (kk 0) lt2 20 tw2, zA (kk 0) lf2 20 fx2])) A) (by decide) (Nat.le_of_ble_eq_true rfl) ?_
  intro p e s m below meth c A X hP hD hS ls hl
  obtain ⟨hx, hb, hr, hml, hown, hts, hlk, hnm, hK, hN, hA⟩ := X
  have hown : s.vm.findClass "LoseLeague$League" = some m.cls := hown
  have hl : lv_has ls 2 [(0, .ref la), (1, .ref la2)] := hl
  unfold wpX5_as at h
  refine lv_aload_n hx hb dX5_as_0 rfl (lv_at hl 0 rfl) ?_
  refine lv_aload_n hx hb dX5_as_1 rfl (lv_at hl 1 rfl) ?_
  refine va_get (D := D) (ci := 5) (v := .int (fl2 0)) (C := RX5) (T := TX5) (N := 6) hx hb hts in_X5 hown hK hP 3 rfl rfl 0 (Nat.le_of_ble_eq_true rfl) (hts _ q132) (fun _ h9 => h9) rfl dX5_as_2 ?_
  refine va_put (D := D) (ci := 5) (v := .int (fl2 0)) (C := RX5) (T := TX5) (N := 6) hx hb hts in_X5 tyX5 tyX5_ok nmX5 hown hK hP hD hS 0 rfl rfl 0 (Nat.le_of_ble_eq_true rfl) (hts _ q132) (fun _ h9 => h9) rfl (tyX5_ok 0 (Nat.le_of_ble_eq_true rfl)) rfl rfl (Nat.le_of_ble_eq_true rfl) dX5_as_5 (fun H locs hP hD hS => ?_)
  have hP : va_P D vwCl [zL la lt lf (upd fl 0 (fl2 0)), zA (kk 0) lt 20 tw, zA (kk 0) lf 20 fx, zL la2 lt2 lf2 fl2, zA (kk 0) lt2 20 tw2, zA (kk 0) lf2 20 fx2] H := hP
  have hD : va_D A [zL la lt lf (upd fl 0 (fl2 0)), zA (kk 0) lt 20 tw, zA (kk 0) lf 20 fx, zL la2 lt2 lf2 fl2, zA (kk 0) lt2 20 tw2, zA (kk 0) lf2 20 fx2] := hD
  refine lv_aload_n hx hb dX5_as_8 rfl (lv_at hl 1 rfl) ?_
  refine va_get (D := D) (ci := 5) (v := .ref lt2) (C := RX5) (T := TX5) (N := 6) hx hb hts in_X5 hown hK hP 3 rfl rfl 1 (Nat.le_of_ble_eq_true rfl) (hts _ q135) (fun _ h9 => h9) rfl dX5_as_9 ?_
  refine lv_iconst (v := (0 : Int32)) hx hb dX5_as_12 (by decide) ?_
  refine lv_aload_n hx hb dX5_as_13 rfl (lv_at hl 0 rfl) ?_
  refine va_get (D := D) (ci := 5) (v := .ref lt) (C := RX5) (T := TX5) (N := 6) hx hb hts in_X5 hown hK hP 0 rfl rfl 1 (Nat.le_of_ble_eq_true rfl) (hts _ q135) (fun _ h9 => h9) rfl dX5_as_14 ?_
  refine lv_iconst (v := (0 : Int32)) hx hb dX5_as_17 (by decide) ?_
  refine lv_bipush (v := (20 : Int32)) hx hb dX5_as_18 (by decide) ?_
  obtain ⟨hk0, h⟩ := h
  refine va_copyi hx hb (by rw [hml]; exact hl.1.symm) hown (hts _ q493) (hts _ q495) (hts _ q494) (hts _ q81) hK hP hD hS 4 1 0 0 (ty := .byte) rfl rfl rfl rfl rfl (by decide) (by decide) (by decide) (by decide) (by decide) hk0 (Nat.le_of_ble_eq_true rfl) (Nat.le_of_ble_eq_true rfl) dX5_as_20 (fun H locs hP hD hS => ?_)
  have hP : va_P D vwCl [zL la lt lf (upd fl 0 (fl2 0)), zA (kk 0) lt 20 (va_cpy tw2 tw (0 : Int32).toNatClampNeg (0 : Int32).toNatClampNeg (20 : Int32).toNatClampNeg), zA (kk 0) lf 20 fx, zL la2 lt2 lf2 fl2, zA (kk 0) lt2 20 tw2, zA (kk 0) lf2 20 fx2] H := hP
  have hD : va_D A [zL la lt lf (upd fl 0 (fl2 0)), zA (kk 0) lt 20 (va_cpy tw2 tw (0 : Int32).toNatClampNeg (0 : Int32).toNatClampNeg (20 : Int32).toNatClampNeg), zA (kk 0) lf 20 fx, zL la2 lt2 lf2 fl2, zA (kk 0) lt2 20 tw2, zA (kk 0) lf2 20 fx2] := hD
  refine lv_aload_n hx hb dX5_as_23 rfl (lv_at hl 0 rfl) ?_
  refine lv_aload_n hx hb dX5_as_24 rfl (lv_at hl 1 rfl) ?_
  refine va_get (D := D) (ci := 5) (v := .int (fl2 2)) (C := RX5) (T := TX5) (N := 6) hx hb hts in_X5 hown hK hP 3 rfl rfl 2 (Nat.le_of_ble_eq_true rfl) (hts _ q136) (fun _ h9 => h9) rfl dX5_as_25 ?_
  refine va_put (D := D) (ci := 5) (v := .int (fl2 2)) (C := RX5) (T := TX5) (N := 6) hx hb hts in_X5 tyX5 tyX5_ok nmX5 hown hK hP hD hS 0 rfl rfl 2 (Nat.le_of_ble_eq_true rfl) (hts _ q136) (fun _ h9 => h9) rfl (tyX5_ok 2 (Nat.le_of_ble_eq_true rfl)) rfl rfl (Nat.le_of_ble_eq_true rfl) dX5_as_28 (fun H locs hP hD hS => ?_)
  have hP : va_P D vwCl [zL la lt lf (upd (upd fl 0 (fl2 0)) 2 (fl2 2)), zA (kk 0) lt 20 (va_cpy tw2 tw (0 : Int32).toNatClampNeg (0 : Int32).toNatClampNeg (20 : Int32).toNatClampNeg), zA (kk 0) lf 20 fx, zL la2 lt2 lf2 fl2, zA (kk 0) lt2 20 tw2, zA (kk 0) lf2 20 fx2] H := hP
  have hD : va_D A [zL la lt lf (upd (upd fl 0 (fl2 0)) 2 (fl2 2)), zA (kk 0) lt 20 (va_cpy tw2 tw (0 : Int32).toNatClampNeg (0 : Int32).toNatClampNeg (20 : Int32).toNatClampNeg), zA (kk 0) lf 20 fx, zL la2 lt2 lf2 fl2, zA (kk 0) lt2 20 tw2, zA (kk 0) lf2 20 fx2] := hD
  refine lv_aload_n hx hb dX5_as_31 rfl (lv_at hl 1 rfl) ?_
  refine va_get (D := D) (ci := 5) (v := .ref lf2) (C := RX5) (T := TX5) (N := 6) hx hb hts in_X5 hown hK hP 3 rfl rfl 3 (Nat.le_of_ble_eq_true rfl) (hts _ q139) (fun _ h9 => h9) rfl dX5_as_32 ?_
  refine lv_iconst (v := (0 : Int32)) hx hb dX5_as_35 (by decide) ?_
  refine lv_aload_n hx hb dX5_as_36 rfl (lv_at hl 0 rfl) ?_
  refine va_get (D := D) (ci := 5) (v := .ref lf) (C := RX5) (T := TX5) (N := 6) hx hb hts in_X5 hown hK hP 0 rfl rfl 3 (Nat.le_of_ble_eq_true rfl) (hts _ q139) (fun _ h9 => h9) rfl dX5_as_37 ?_
  refine lv_iconst (v := (0 : Int32)) hx hb dX5_as_40 (by decide) ?_
  refine lv_bipush (v := (20 : Int32)) hx hb dX5_as_41 (by decide) ?_
  obtain ⟨hk0, h⟩ := h
  refine va_copyi hx hb (by rw [hml]; exact hl.1.symm) hown (hts _ q493) (hts _ q495) (hts _ q494) (hts _ q81) hK hP hD hS 5 2 0 0 (ty := .byte) rfl rfl rfl rfl rfl (by decide) (by decide) (by decide) (by decide) (by decide) hk0 (Nat.le_of_ble_eq_true rfl) (Nat.le_of_ble_eq_true rfl) dX5_as_43 (fun H locs hP hD hS => ?_)
  have hP : va_P D vwCl [zL la lt lf (upd (upd fl 0 (fl2 0)) 2 (fl2 2)), zA (kk 0) lt 20 (va_cpy tw2 tw (0 : Int32).toNatClampNeg (0 : Int32).toNatClampNeg (20 : Int32).toNatClampNeg), zA (kk 0) lf 20 (va_cpy fx2 fx (0 : Int32).toNatClampNeg (0 : Int32).toNatClampNeg (20 : Int32).toNatClampNeg), zL la2 lt2 lf2 fl2, zA (kk 0) lt2 20 tw2, zA (kk 0) lf2 20 fx2] H := hP
  have hD : va_D A [zL la lt lf (upd (upd fl 0 (fl2 0)) 2 (fl2 2)), zA (kk 0) lt 20 (va_cpy tw2 tw (0 : Int32).toNatClampNeg (0 : Int32).toNatClampNeg (20 : Int32).toNatClampNeg), zA (kk 0) lf 20 (va_cpy fx2 fx (0 : Int32).toNatClampNeg (0 : Int32).toNatClampNeg (20 : Int32).toNatClampNeg), zL la2 lt2 lf2 fl2, zA (kk 0) lt2 20 tw2, zA (kk 0) lf2 20 fx2] := hD
  refine lv_aload_n hx hb dX5_as_46 rfl (lv_at hl 0 rfl) ?_
  refine lv_aload_n hx hb dX5_as_47 rfl (lv_at hl 1 rfl) ?_
  refine va_get (D := D) (ci := 5) (v := .int (fl2 4)) (C := RX5) (T := TX5) (N := 6) hx hb hts in_X5 hown hK hP 3 rfl rfl 4 (Nat.le_of_ble_eq_true rfl) (hts _ q141) (fun _ h9 => h9) rfl dX5_as_48 ?_
  refine va_put (D := D) (ci := 5) (v := .int (fl2 4)) (C := RX5) (T := TX5) (N := 6) hx hb hts in_X5 tyX5 tyX5_ok nmX5 hown hK hP hD hS 0 rfl rfl 4 (Nat.le_of_ble_eq_true rfl) (hts _ q141) (fun _ h9 => h9) rfl (tyX5_ok 4 (Nat.le_of_ble_eq_true rfl)) rfl rfl (Nat.le_of_ble_eq_true rfl) dX5_as_51 (fun H locs hP hD hS => ?_)
  have hP : va_P D vwCl [zL la lt lf (upd (upd (upd fl 0 (fl2 0)) 2 (fl2 2)) 4 (fl2 4)), zA (kk 0) lt 20 (va_cpy tw2 tw (0 : Int32).toNatClampNeg (0 : Int32).toNatClampNeg (20 : Int32).toNatClampNeg), zA (kk 0) lf 20 (va_cpy fx2 fx (0 : Int32).toNatClampNeg (0 : Int32).toNatClampNeg (20 : Int32).toNatClampNeg), zL la2 lt2 lf2 fl2, zA (kk 0) lt2 20 tw2, zA (kk 0) lf2 20 fx2] H := hP
  have hD : va_D A [zL la lt lf (upd (upd (upd fl 0 (fl2 0)) 2 (fl2 2)) 4 (fl2 4)), zA (kk 0) lt 20 (va_cpy tw2 tw (0 : Int32).toNatClampNeg (0 : Int32).toNatClampNeg (20 : Int32).toNatClampNeg), zA (kk 0) lf 20 (va_cpy fx2 fx (0 : Int32).toNatClampNeg (0 : Int32).toNatClampNeg (20 : Int32).toNatClampNeg), zL la2 lt2 lf2 fl2, zA (kk 0) lt2 20 tw2, zA (kk 0) lf2 20 fx2] := hD
  refine lv_aload_n hx hb dX5_as_54 rfl (lv_at hl 0 rfl) ?_
  refine lv_aload_n hx hb dX5_as_55 rfl (lv_at hl 1 rfl) ?_
  refine va_get (D := D) (ci := 5) (v := .int (fl2 5)) (C := RX5) (T := TX5) (N := 6) hx hb hts in_X5 hown hK hP 3 rfl rfl 5 (Nat.le_of_ble_eq_true rfl) (hts _ q143) (fun _ h9 => h9) rfl dX5_as_56 ?_
  refine va_put (D := D) (ci := 5) (v := .int (fl2 5)) (C := RX5) (T := TX5) (N := 6) hx hb hts in_X5 tyX5 tyX5_ok nmX5 hown hK hP hD hS 0 rfl rfl 5 (Nat.le_of_ble_eq_true rfl) (hts _ q143) (fun _ h9 => h9) rfl (tyX5_ok 5 (Nat.le_of_ble_eq_true rfl)) rfl rfl (Nat.le_of_ble_eq_true rfl) dX5_as_59 (fun H locs hP hD hS => ?_)
  have hP : va_P D vwCl [zL la lt lf (upd (upd (upd (upd fl 0 (fl2 0)) 2 (fl2 2)) 4 (fl2 4)) 5 (fl2 5)), zA (kk 0) lt 20 (va_cpy tw2 tw (0 : Int32).toNatClampNeg (0 : Int32).toNatClampNeg (20 : Int32).toNatClampNeg), zA (kk 0) lf 20 (va_cpy fx2 fx (0 : Int32).toNatClampNeg (0 : Int32).toNatClampNeg (20 : Int32).toNatClampNeg), zL la2 lt2 lf2 fl2, zA (kk 0) lt2 20 tw2, zA (kk 0) lf2 20 fx2] H := hP
  have hD : va_D A [zL la lt lf (upd (upd (upd (upd fl 0 (fl2 0)) 2 (fl2 2)) 4 (fl2 4)) 5 (fl2 5)), zA (kk 0) lt 20 (va_cpy tw2 tw (0 : Int32).toNatClampNeg (0 : Int32).toNatClampNeg (20 : Int32).toNatClampNeg), zA (kk 0) lf 20 (va_cpy fx2 fx (0 : Int32).toNatClampNeg (0 : Int32).toNatClampNeg (20 : Int32).toNatClampNeg), zL la2 lt2 lf2 fl2, zA (kk 0) lt2 20 tw2, zA (kk 0) lf2 20 fx2] := hD
  exact zr_v hx hb hr hlk hP hD hS ((upd (upd (upd (upd fl 0 (fl2 0)) 2 (fl2 2)) 4 (fl2 4)) 5 (fl2 5)), (va_cpy tw2 tw (0 : Int32).toNatClampNeg (0 : Int32).toNatClampNeg (20 : Int32).toNatClampNeg), (va_cpy fx2 fx (0 : Int32).toNatClampNeg (0 : Int32).toNatClampNeg (20 : Int32).toNatClampNeg)) [0, 1, 2, 3, 4, 5] rfl (by decide) dX5_as_62 h
def wpX5_isPlace (fx : Nat → Int32) (fx2 : Nat → Int32) (p1 : Int32) (p2 : Int32) (Q : (Nat → Int32) → Prop) : Prop :=
  (vp_in ((2 : Int32) * p2) 20 ∧ (∀ v_1 : Int32, v_1 = (fx2 ((2 : Int32) * p2).toNatClampNeg) → (vp_in ((2 : Int32) * p1) 20 ∧ (vp_in (((2 : Int32) * p2) + (1 : Int32)) 20 ∧ (∀ v_2 : Int32, v_2 = (fx2 (((2 : Int32) * p2) + (1 : Int32)).toNatClampNeg) → (vp_in (((2 : Int32) * p1) + (1 : Int32)) 20 ∧ Q (upd (upd fx ((2 : Int32) * p1).toNatClampNeg (vp_nar .byte v_1)) (((2 : Int32) * p1) + (1 : Int32)).toNatClampNeg (vp_nar .byte v_2))))))))
set_option maxHeartbeats 4000000 in
theorem metX5_isPlace (l : Launch) (D : va_G) (kk : Nat → ClassId) (la : Nat) (lt : Nat) (lf : Nat) (la2 : Nat) (lt2 : Nat) (lf2 : Nat) (sz : Nat) (fl : Nat → Int32) (tw : Nat → Int32) (fx : Nat → Int32) (fl2 : Nat → Int32) (tw2 : Nat → Int32) (fx2 : Nat → Int32) (p1 : Int32) (p2 : Int32) (Q : (Nat → Int32) → Prop) (h : wpX5_isPlace fx fx2 p1 p2 Q) : Met l yX5_isPlace (ws_ yX5_isPlace cX5_isPlace 4 none) { frames := 0, cells := 0, slots := 0, locals := 0 } (va_Pc ([.ref la, .int p1, .ref la2, .int p2] : List Value) (zPc D kk [zL la lt lf fl, zA (kk 0) lt 20 tw, zA (kk 0) lf 20 fx, zL la2 lt2 lf2 fl2, zA (kk 0) lt2 20 tw2, zA (kk 0) lf2 20 fx2] sz)) (va_Qv (fun (u : (Nat → Int32)) => Q u) (zB D (va_A [zL la lt lf fl, zA (kk 0) lt 20 tw, zA (kk 0) lf 20 fx, zL la2 lt2 lf2 fl2, zA (kk 0) lt2 20 tw2, zA (kk 0) lf2 20 fx2] sz) (fun u : (Nat → Int32) => [zL la lt lf fl, zA (kk 0) lt 20 tw, zA (kk 0) lf 20 u, zL la2 lt2 lf2 fl2, zA (kk 0) lt2 20 tw2, zA (kk 0) lf2 20 fx2])) (va_A [zL la lt lf fl, zA (kk 0) lt 20 tw, zA (kk 0) lf 20 fx, zL la2 lt2 lf2 fl2, zA (kk 0) lt2 20 tw2, zA (kk 0) lf2 20 fx2] sz)) 0 0 (va_A [zL la lt lf fl, zA (kk 0) lt 20 tw, zA (kk 0) lf 20 fx, zL la2 lt2 lf2 fl2, zA (kk 0) lt2 20 tw2, zA (kk 0) lf2 20 fx2] sz) := by
  refine zMet (Qc := fun A => va_Qv (fun (u : (Nat → Int32)) => Q u) (zB D A (fun u : (Nat → Int32) => [zL la lt lf fl, zA (kk 0) lt 20 tw, zA (kk 0) lf 20 u, zL la2 lt2 lf2 fl2, zA (kk 0) lt2 20 tw2, zA (kk 0) lf2 20 fx2])) A) (by decide) (Nat.le_of_ble_eq_true rfl) ?_
  intro p e s m below meth c A X hP hD hS ls hl
  obtain ⟨hx, hb, hr, hml, hown, hts, hlk, hnm, hK, hN, hA⟩ := X
  have hown : s.vm.findClass "LoseLeague$League" = some m.cls := hown
  have hl : lv_has ls 4 [(0, .ref la), (1, .int p1), (2, .ref la2), (3, .int p2)] := hl
  unfold wpX5_isPlace at h
  refine lv_aload_n hx hb dX5_isPlace_0 rfl (lv_at hl 0 rfl) ?_
  refine va_get (D := D) (ci := 5) (v := .ref lf) (C := RX5) (T := TX5) (N := 6) hx hb hts in_X5 hown hK hP 0 rfl rfl 3 (Nat.le_of_ble_eq_true rfl) (hts _ q139) (fun _ h9 => h9) rfl dX5_isPlace_1 ?_
  refine lv_iconst (v := (2 : Int32)) hx hb dX5_isPlace_4 (by decide) ?_
  refine lv_iload_n hx hb dX5_isPlace_5 rfl (lv_at hl 1 rfl) ?_
  refine lv_imul hx hb dX5_isPlace_6 ?_
  refine lv_aload_n hx hb dX5_isPlace_7 rfl (lv_at hl 2 rfl) ?_
  refine va_get (D := D) (ci := 5) (v := .ref lf2) (C := RX5) (T := TX5) (N := 6) hx hb hts in_X5 hown hK hP 3 rfl rfl 3 (Nat.le_of_ble_eq_true rfl) (hts _ q139) (fun _ h9 => h9) rfl dX5_isPlace_8 ?_
  refine lv_iconst (v := (2 : Int32)) hx hb dX5_isPlace_11 (by decide) ?_
  refine lv_iload_n hx hb dX5_isPlace_12 rfl (lv_at hl 3 rfl) ?_
  refine lv_imul hx hb dX5_isPlace_13 ?_
  obtain ⟨hin, h⟩ := h
  refine va_bald hx hb hK hP 5 0 rfl rfl hin dX5_isPlace_14 ?_
  refine lv_topi (fun v_1 ev_1 => ?_)
  have h := h v_1 ev_1
  obtain ⟨hin, h⟩ := h
  refine va_bast hx hb hK hP hD hS 2 0 rfl rfl hin dX5_isPlace_15 (fun H locs hP hD hS => ?_)
  have hP : va_P D vwCl [zL la lt lf fl, zA (kk 0) lt 20 tw, zA (kk 0) lf 20 (upd fx ((2 : Int32) * p1).toNatClampNeg (vp_nar .byte v_1)), zL la2 lt2 lf2 fl2, zA (kk 0) lt2 20 tw2, zA (kk 0) lf2 20 fx2] H := hP
  have hD : va_D A [zL la lt lf fl, zA (kk 0) lt 20 tw, zA (kk 0) lf 20 (upd fx ((2 : Int32) * p1).toNatClampNeg (vp_nar .byte v_1)), zL la2 lt2 lf2 fl2, zA (kk 0) lt2 20 tw2, zA (kk 0) lf2 20 fx2] := hD
  refine lv_aload_n hx hb dX5_isPlace_16 rfl (lv_at hl 0 rfl) ?_
  refine va_get (D := D) (ci := 5) (v := .ref lf) (C := RX5) (T := TX5) (N := 6) hx hb hts in_X5 hown hK hP 0 rfl rfl 3 (Nat.le_of_ble_eq_true rfl) (hts _ q139) (fun _ h9 => h9) rfl dX5_isPlace_17 ?_
  refine lv_iconst (v := (2 : Int32)) hx hb dX5_isPlace_20 (by decide) ?_
  refine lv_iload_n hx hb dX5_isPlace_21 rfl (lv_at hl 1 rfl) ?_
  refine lv_imul hx hb dX5_isPlace_22 ?_
  refine lv_iconst (v := (1 : Int32)) hx hb dX5_isPlace_23 (by decide) ?_
  refine lv_iadd hx hb dX5_isPlace_24 ?_
  refine lv_aload_n hx hb dX5_isPlace_25 rfl (lv_at hl 2 rfl) ?_
  refine va_get (D := D) (ci := 5) (v := .ref lf2) (C := RX5) (T := TX5) (N := 6) hx hb hts in_X5 hown hK hP 3 rfl rfl 3 (Nat.le_of_ble_eq_true rfl) (hts _ q139) (fun _ h9 => h9) rfl dX5_isPlace_26 ?_
  refine lv_iconst (v := (2 : Int32)) hx hb dX5_isPlace_29 (by decide) ?_
  refine lv_iload_n hx hb dX5_isPlace_30 rfl (lv_at hl 3 rfl) ?_
  refine lv_imul hx hb dX5_isPlace_31 ?_
  refine lv_iconst (v := (1 : Int32)) hx hb dX5_isPlace_32 (by decide) ?_
  refine lv_iadd hx hb dX5_isPlace_33 ?_
  obtain ⟨hin, h⟩ := h
  refine va_bald hx hb hK hP 5 0 rfl rfl hin dX5_isPlace_34 ?_
  refine lv_topi (fun v_2 ev_2 => ?_)
  have h := h v_2 ev_2
  obtain ⟨hin, h⟩ := h
  refine va_bast hx hb hK hP hD hS 2 0 rfl rfl hin dX5_isPlace_35 (fun H locs hP hD hS => ?_)
  have hP : va_P D vwCl [zL la lt lf fl, zA (kk 0) lt 20 tw, zA (kk 0) lf 20 (upd (upd fx ((2 : Int32) * p1).toNatClampNeg (vp_nar .byte v_1)) (((2 : Int32) * p1) + (1 : Int32)).toNatClampNeg (vp_nar .byte v_2)), zL la2 lt2 lf2 fl2, zA (kk 0) lt2 20 tw2, zA (kk 0) lf2 20 fx2] H := hP
  have hD : va_D A [zL la lt lf fl, zA (kk 0) lt 20 tw, zA (kk 0) lf 20 (upd (upd fx ((2 : Int32) * p1).toNatClampNeg (vp_nar .byte v_1)) (((2 : Int32) * p1) + (1 : Int32)).toNatClampNeg (vp_nar .byte v_2)), zL la2 lt2 lf2 fl2, zA (kk 0) lt2 20 tw2, zA (kk 0) lf2 20 fx2] := hD
  exact zr_v hx hb hr hlk hP hD hS ((upd (upd fx ((2 : Int32) * p1).toNatClampNeg (vp_nar .byte v_1)) (((2 : Int32) * p1) + (1 : Int32)).toNatClampNeg (vp_nar .byte v_2))) [0, 1, 2, 3, 4, 5] rfl (by decide) dX5_isPlace_36 h
