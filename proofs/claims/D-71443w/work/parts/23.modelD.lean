set_option maxRecDepth 100000
theorem pdX7_see : yX7_see.cls = "LoseLeagueModel" ∧ yX7_see.cls ≠ "java/lang/invoke/MethodHandle" ∧ yX7_see.cls ≠ "java/lang/invoke/VarHandle" ∧ (parseMethodDescriptor yX7_see.desc).map (fun d => d.parameters.length) = some 2 := by decide +kernel
theorem peX7_see : yX7_see.name ≠ "<init>" ∧ (parseMethodDescriptor yX7_see.desc).map (fun d => d.parameters.length) = some 2 := by decide +kernel
theorem pdX7_forget : yX7_forget.cls = "LoseLeagueModel" ∧ yX7_forget.cls ≠ "java/lang/invoke/MethodHandle" ∧ yX7_forget.cls ≠ "java/lang/invoke/VarHandle" ∧ (parseMethodDescriptor yX7_forget.desc).map (fun d => d.parameters.length) = some 1 := by decide +kernel
theorem peX7_forget : yX7_forget.name ≠ "<init>" ∧ (parseMethodDescriptor yX7_forget.desc).map (fun d => d.parameters.length) = some 1 := by decide +kernel
theorem pdX7_isAsSeen : yX7_isAsSeen.cls = "LoseLeagueModel" ∧ yX7_isAsSeen.cls ≠ "java/lang/invoke/MethodHandle" ∧ yX7_isAsSeen.cls ≠ "java/lang/invoke/VarHandle" ∧ (parseMethodDescriptor yX7_isAsSeen.desc).map (fun d => d.parameters.length) = some 1 := by decide +kernel
theorem peX7_isAsSeen : yX7_isAsSeen.name ≠ "<init>" ∧ (parseMethodDescriptor yX7_isAsSeen.desc).map (fun d => d.parameters.length) = some 1 := by decide +kernel
theorem pdX7_numbersAt : yX7_numbersAt.cls = "LoseLeagueModel" ∧ yX7_numbersAt.cls ≠ "java/lang/invoke/MethodHandle" ∧ yX7_numbersAt.cls ≠ "java/lang/invoke/VarHandle" ∧ (parseMethodDescriptor yX7_numbersAt.desc).map (fun d => d.parameters.length) = some 2 := by decide +kernel
theorem peX7_numbersAt : yX7_numbersAt.name ≠ "<init>" ∧ (parseMethodDescriptor yX7_numbersAt.desc).map (fun d => d.parameters.length) = some 2 := by decide +kernel
theorem pdX7_kinds : yX7_kinds.cls = "LoseLeagueModel" ∧ yX7_kinds.cls ≠ "java/lang/invoke/MethodHandle" ∧ yX7_kinds.cls ≠ "java/lang/invoke/VarHandle" ∧ (parseMethodDescriptor yX7_kinds.desc).map (fun d => d.parameters.length) = some 1 := by decide +kernel
theorem peX7_kinds : yX7_kinds.name ≠ "<init>" ∧ (parseMethodDescriptor yX7_kinds.desc).map (fun d => d.parameters.length) = some 1 := by decide +kernel
theorem pdX7_strengths : yX7_strengths.cls = "LoseLeagueModel" ∧ yX7_strengths.cls ≠ "java/lang/invoke/MethodHandle" ∧ yX7_strengths.cls ≠ "java/lang/invoke/VarHandle" ∧ (parseMethodDescriptor yX7_strengths.desc).map (fun d => d.parameters.length) = some 1 := by decide +kernel
theorem peX7_strengths : yX7_strengths.name ≠ "<init>" ∧ (parseMethodDescriptor yX7_strengths.desc).map (fun d => d.parameters.length) = some 1 := by decide +kernel
theorem pdX7_ask : yX7_ask.cls = "LoseLeagueModel" ∧ yX7_ask.cls ≠ "java/lang/invoke/MethodHandle" ∧ yX7_ask.cls ≠ "java/lang/invoke/VarHandle" ∧ (parseMethodDescriptor yX7_ask.desc).map (fun d => d.parameters.length) = some 2 := by decide +kernel
theorem peX7_ask : yX7_ask.name ≠ "<init>" ∧ (parseMethodDescriptor yX7_ask.desc).map (fun d => d.parameters.length) = some 2 := by decide +kernel
theorem pdX7_drift : yX7_drift.cls = "LoseLeagueModel" ∧ yX7_drift.cls ≠ "java/lang/invoke/MethodHandle" ∧ yX7_drift.cls ≠ "java/lang/invoke/VarHandle" ∧ (parseMethodDescriptor yX7_drift.desc).map (fun d => d.parameters.length) = some 3 := by decide +kernel
theorem peX7_drift : yX7_drift.name ≠ "<init>" ∧ (parseMethodDescriptor yX7_drift.desc).map (fun d => d.parameters.length) = some 3 := by decide +kernel
theorem pdX7_keep : yX7_keep.cls = "LoseLeagueModel" ∧ yX7_keep.cls ≠ "java/lang/invoke/MethodHandle" ∧ yX7_keep.cls ≠ "java/lang/invoke/VarHandle" ∧ (parseMethodDescriptor yX7_keep.desc).map (fun d => d.parameters.length) = some 1 := by decide +kernel
theorem peX7_keep : yX7_keep.name ≠ "<init>" ∧ (parseMethodDescriptor yX7_keep.desc).map (fun d => d.parameters.length) = some 1 := by decide +kernel
theorem pdX7_back : yX7_back.cls = "LoseLeagueModel" ∧ yX7_back.cls ≠ "java/lang/invoke/MethodHandle" ∧ yX7_back.cls ≠ "java/lang/invoke/VarHandle" ∧ (parseMethodDescriptor yX7_back.desc).map (fun d => d.parameters.length) = some 1 := by decide +kernel
theorem peX7_back : yX7_back.name ≠ "<init>" ∧ (parseMethodDescriptor yX7_back.desc).map (fun d => d.parameters.length) = some 1 := by decide +kernel
theorem pdX7_sheet : yX7_sheet.cls = "LoseLeagueModel" ∧ yX7_sheet.cls ≠ "java/lang/invoke/MethodHandle" ∧ yX7_sheet.cls ≠ "java/lang/invoke/VarHandle" ∧ (parseMethodDescriptor yX7_sheet.desc).map (fun d => d.parameters.length) = some 3 := by decide +kernel
theorem peX7_sheet : yX7_sheet.name ≠ "<init>" ∧ (parseMethodDescriptor yX7_sheet.desc).map (fun d => d.parameters.length) = some 3 := by decide +kernel
theorem pdX7_lay : yX7_lay.cls = "LoseLeagueModel" ∧ yX7_lay.cls ≠ "java/lang/invoke/MethodHandle" ∧ yX7_lay.cls ≠ "java/lang/invoke/VarHandle" ∧ (parseMethodDescriptor yX7_lay.desc).map (fun d => d.parameters.length) = some 3 := by decide +kernel
theorem peX7_lay : yX7_lay.name ≠ "<init>" ∧ (parseMethodDescriptor yX7_lay.desc).map (fun d => d.parameters.length) = some 3 := by decide +kernel
theorem pdX7_read : yX7_read.cls = "LoseLeagueModel" ∧ yX7_read.cls ≠ "java/lang/invoke/MethodHandle" ∧ yX7_read.cls ≠ "java/lang/invoke/VarHandle" ∧ (parseMethodDescriptor yX7_read.desc).map (fun d => d.parameters.length) = some 4 := by decide +kernel
theorem peX7_read : yX7_read.name ≠ "<init>" ∧ (parseMethodDescriptor yX7_read.desc).map (fun d => d.parameters.length) = some 4 := by decide +kernel
theorem pdX7_torn : yX7_torn.cls = "LoseLeagueModel" ∧ yX7_torn.cls ≠ "java/lang/invoke/MethodHandle" ∧ yX7_torn.cls ≠ "java/lang/invoke/VarHandle" ∧ (parseMethodDescriptor yX7_torn.desc).map (fun d => d.parameters.length) = some 0 := by decide +kernel
theorem peX7_torn : yX7_torn.name ≠ "<init>" ∧ (parseMethodDescriptor yX7_torn.desc).map (fun d => d.parameters.length) = some 0 := by decide +kernel
theorem pdX7_count : yX7_count.cls = "LoseLeagueModel" ∧ yX7_count.cls ≠ "java/lang/invoke/MethodHandle" ∧ yX7_count.cls ≠ "java/lang/invoke/VarHandle" ∧ (parseMethodDescriptor yX7_count.desc).map (fun d => d.parameters.length) = some 1 := by decide +kernel
theorem peX7_count : yX7_count.name ≠ "<init>" ∧ (parseMethodDescriptor yX7_count.desc).map (fun d => d.parameters.length) = some 1 := by decide +kernel
def wpX7_see_28 (p1 : Int32) (p2 : Int32) (Q : Int32 → (Nat → Int32) → (Nat → Int32) → Prop) (f : Nat → Int32) (sn : Nat → Int32) : Prop :=
  (((f 22) = (6 : Int32) → Q (-3 : Int32) f sn) ∧ (¬ (f 22) = (6 : Int32) → (vp_in ((2 : Int32) * (f 22)) 12 ∧ (vp_in (((2 : Int32) * (f 22)) + (1 : Int32)) 12 ∧ Q ((f 22) + (1 : Int32)) (upd f 22 ((f 22) + (1 : Int32))) (upd (upd sn ((2 : Int32) * (f 22)).toNatClampNeg p1) (((2 : Int32) * (f 22)) + (1 : Int32)).toNatClampNeg p2)))))
def wpX7_see (f : Nat → Int32) (sn : Nat → Int32) (p1 : Int32) (p2 : Int32) (Q : Int32 → (Nat → Int32) → (Nat → Int32) → Prop) : Prop :=
  (wpX7_in (p1.toInt64) (0 : Int64) (20 : Int64) (fun r_1 => ((r_1 = 0 → Q (-1 : Int32) f sn) ∧ (¬ r_1 = 0 → (wpX7_isTown f p2 (fun r_3 => ((r_3 = 0 → ((p2 = (9 : Int32) → wpX7_see_28 p1 p2 Q  f sn) ∧ (¬ p2 = (9 : Int32) → Q (-1 : Int32) f sn))) ∧ (¬ r_3 = 0 → wpX7_see_28 p1 p2 Q  f sn))))))))
set_option maxHeartbeats 4000000 in
theorem metX7_see (l : Launch) (D : va_G) (kk : Nat → ClassId) (am : Nat → Nat) (sz : Nat) (f : Nat → Int32) (sn : Nat → Int32) (p1 : Int32) (p2 : Int32) (Q : Int32 → (Nat → Int32) → (Nat → Int32) → Prop) (h : wpX7_see f sn p1 p2 Q) : Met l yX7_see (ws_ yX7_see cX7_see 3 (some .int)) { frames := 2, cells := 0, slots := 0, locals := 46 } (va_Pc ([.ref (am 0), .int p1, .int p2] : List Value) (zPc D kk [zM am f, zA (kk 1) (am 7) 12 sn] sz)) (va_Qi (fun (r : Int32) (u : (Nat → Int32) × (Nat → Int32)) => Q r u.1 u.2) (zB D (va_A [zM am f, zA (kk 1) (am 7) 12 sn] sz) (fun u : (Nat → Int32) × (Nat → Int32) => [zM am u.1, zA (kk 1) (am 7) 12 u.2])) (va_A [zM am f, zA (kk 1) (am 7) 12 sn] sz)) 0 0 (va_A [zM am f, zA (kk 1) (am 7) 12 sn] sz) := by
  refine zMet (Qc := fun A => va_Qi (fun (r : Int32) (u : (Nat → Int32) × (Nat → Int32)) => Q r u.1 u.2) (zB D A (fun u : (Nat → Int32) × (Nat → Int32) => [zM am u.1, zA (kk 1) (am 7) 12 u.2])) A) (by decide) (Nat.le_of_ble_eq_true rfl) ?_
  intro p e s m below meth c A X hP hD hS ls hl
  obtain ⟨hx, hb, hr, hml, hown, hts, hlk, hnm, hK, hN, hA⟩ := X
  have hown : s.vm.findClass "LoseLeagueModel" = some m.cls := hown
  have hl : lv_has ls 3 [(0, .ref (am 0)), (1, .int p1), (2, .int p2)] := hl
  unfold wpX7_see at h
  refine lv_iload_n hx hb dX7_see_0 rfl (lv_at hl 1 rfl) ?_
  refine lv_i2l hx hb dX7_see_1 rfl ?_
  refine lv_lconst (v := (0 : Int64)) hx hb dX7_see_2 (by decide) ?_
  refine lv_ldc2 (v := (20 : Int64)) hx hb hown (hts _ q1146) dX7_see_3 ?_
  refine zc_i (wc := []) (wr := [zM am f, zA (kk 1) (am 7) 12 sn]) (w1 := (fun u : Unit => [])) (rest := []) [] [0, 1] rfl rfl (by decide) (by decide) (by decide) hA hP hD hS (fun hP hD => va_runS (As := [.long (p1.toInt64), .long (0 : Int64), .long (20 : Int64)]) (rest := []) ⟨hx, hb, hml, hown, hts⟩ (metX7_in l D kk _ (p1.toInt64) (0 : Int64) (20 : Int64) _ h) (va_cwS 3 hts (lw_S q1033 q1034 q71 q1035) rfl rfl rfl pdX7_in.2 ⟨(Nat.le_of_ble_eq_true rfl), (Nat.le_of_ble_eq_true rfl)⟩) (zp_S hK hN hP hD) rfl rfl hl.1 rfl (lv_room (Nat.le_of_ble_eq_true rfl)) dX7_see_6 ⟨(Nat.le_of_ble_eq_true rfl), (Nat.le_of_ble_eq_true rfl)⟩) (fun r_1 u H locs h hP hD hS => ?_)
  try dsimp only at h
  have hP : va_P D vwCl [zM am f, zA (kk 1) (am 7) 12 sn] H := hP
  have hD : va_D A [zM am f, zA (kk 1) (am 7) 12 sn] := hD
  refine lv_if_eq (tgt := 26) hx hb dX7_see_9 (by decide) (fun c_2 => ?_) (fun c_2 => ?_)
  · have h := h.1 c_2
    refine lv_iconst (v := (-1 : Int32)) hx hb dX7_see_26 (by decide) ?_
    exact zr_i hx hb hr hlk rfl hP hD hS (f, sn) [0, 1] rfl (by decide) dX7_see_27 h
  · have h := h.2 c_2
    refine lv_aload_n hx hb dX7_see_12 rfl (lv_at hl 0 rfl) ?_
    refine lv_iload_n hx hb dX7_see_13 rfl (lv_at hl 2 rfl) ?_
    have hrc := va_recv hK hP (ci := 7) (q0 := 0) rfl rfl
    refine zc_i (wc := [zM am f]) (wr := [zA (kk 1) (am 7) 12 sn]) (w1 := (fun u : Unit => [zM am f])) (rest := []) [0] [1] rfl rfl (by decide) (by decide) (by decide) hA hP hD hS (fun hP hD => va_runV (As := [.int p2]) (rest := []) ⟨hx, hb, hml, hown, hts⟩ (metX7_isTown l D kk am _ f p2 _ h) (cwV 1 hts (lw_V q1105 q1107 qs45 q71 q1108) rfl rfl rfl pdX7_isTown ⟨(Nat.le_of_ble_eq_true rfl), (Nat.le_of_ble_eq_true rfl)⟩) (zp_V hK hN hrc hP hD) rfl rfl hl.1 rfl (lv_room (Nat.le_of_ble_eq_true rfl)) dX7_see_14 ⟨(Nat.le_of_ble_eq_true rfl), (Nat.le_of_ble_eq_true rfl)⟩) (fun r_3 u H locs h hP hD hS => ?_)
    try dsimp only at h
    have hP : va_P D vwCl [zA (kk 1) (am 7) 12 sn, zM am f] H := hP
    have hD : va_D A [zA (kk 1) (am 7) 12 sn, zM am f] := hD
    have cut_28 : ∀ (f : Nat → Int32) (sn : Nat → Int32), wpX7_see_28 p1 p2 Q  f sn → ∀ (H : Heap) (locs : List Loc), va_P D vwCl [zM am f, zA (kk 1) (am 7) 12 sn] H → va_D A [zM am f, zA (kk 1) (am 7) 12 sn] → va_S A s.heap H locs → ∀ ls : Array Slot, lv_has ls 3 [(0, .ref (am 0)), (1, .int p1), (2, .int p2)] → W p l e { frames := 2, cells := 0, slots := 0, locals := 46 } s m ([.ref (am 0), .int p1, .int p2] : List Value).toArray below meth c H locs 0 0 (MQ below (va_Qi (fun (r : Int32) (u : (Nat → Int32) × (Nat → Int32)) => Q r u.1 u.2) (zB D A (fun u : (Nat → Int32) × (Nat → Int32) => [zM am u.1, zA (kk 1) (am 7) 12 u.2])) A) ([.ref (am 0), .int p1, .int p2] : List Value).toArray s 0 0 A) (F0 m 28 ls []) := by
      intro f sn h H locs hP hD hS ls hl
      unfold wpX7_see_28 at h
      refine lv_aload_n hx hb dX7_see_28 rfl (lv_at hl 0 rfl) ?_
      refine va_get (D := D) (ci := 7) (v := .int (f 22)) (C := RX7) (T := TX7) (N := 29) hx hb hts in_X7 hown hK hP 0 rfl rfl 22 (Nat.le_of_ble_eq_true rfl) (hts _ q961) (fun _ h9 => h9) rfl dX7_see_29 ?_
      refine lv_bipush (v := (6 : Int32)) hx hb dX7_see_32 (by decide) ?_
      refine lv_icmp_ne (tgt := 40) hx hb dX7_see_34 (by decide) (fun c_4 => ?_) (fun c_4 => ?_)
      · have h := h.2 c_4
        refine lv_aload_n hx hb dX7_see_40 rfl (lv_at hl 0 rfl) ?_
        refine va_get (D := D) (ci := 7) (v := .ref (am 7)) (C := RX7) (T := TX7) (N := 29) hx hb hts in_X7 hown hK hP 0 rfl rfl 21 (Nat.le_of_ble_eq_true rfl) (hts _ q960) (fun _ h9 => h9) rfl dX7_see_41 ?_
        refine lv_iconst (v := (2 : Int32)) hx hb dX7_see_44 (by decide) ?_
        refine lv_aload_n hx hb dX7_see_45 rfl (lv_at hl 0 rfl) ?_
        refine va_get (D := D) (ci := 7) (v := .int (f 22)) (C := RX7) (T := TX7) (N := 29) hx hb hts in_X7 hown hK hP 0 rfl rfl 22 (Nat.le_of_ble_eq_true rfl) (hts _ q961) (fun _ h9 => h9) rfl dX7_see_46 ?_
        refine lv_imul hx hb dX7_see_49 ?_
        refine lv_iload_n hx hb dX7_see_50 rfl (lv_at hl 1 rfl) ?_
        obtain ⟨hin, h⟩ := h
        refine va_iast hx hb hK hP hD hS 1 1 rfl rfl hin dX7_see_51 (fun H locs hP hD hS => ?_)
        have hP : va_P D vwCl [zM am f, zA (kk 1) (am 7) 12 (upd sn ((2 : Int32) * (f 22)).toNatClampNeg p1)] H := hP
        have hD : va_D A [zM am f, zA (kk 1) (am 7) 12 (upd sn ((2 : Int32) * (f 22)).toNatClampNeg p1)] := hD
        refine lv_aload_n hx hb dX7_see_52 rfl (lv_at hl 0 rfl) ?_
        refine va_get (D := D) (ci := 7) (v := .ref (am 7)) (C := RX7) (T := TX7) (N := 29) hx hb hts in_X7 hown hK hP 0 rfl rfl 21 (Nat.le_of_ble_eq_true rfl) (hts _ q960) (fun _ h9 => h9) rfl dX7_see_53 ?_
        refine lv_iconst (v := (2 : Int32)) hx hb dX7_see_56 (by decide) ?_
        refine lv_aload_n hx hb dX7_see_57 rfl (lv_at hl 0 rfl) ?_
        refine va_get (D := D) (ci := 7) (v := .int (f 22)) (C := RX7) (T := TX7) (N := 29) hx hb hts in_X7 hown hK hP 0 rfl rfl 22 (Nat.le_of_ble_eq_true rfl) (hts _ q961) (fun _ h9 => h9) rfl dX7_see_58 ?_
        refine lv_imul hx hb dX7_see_61 ?_
        refine lv_iconst (v := (1 : Int32)) hx hb dX7_see_62 (by decide) ?_
        refine lv_iadd hx hb dX7_see_63 ?_
        refine lv_iload_n hx hb dX7_see_64 rfl (lv_at hl 2 rfl) ?_
        obtain ⟨hin, h⟩ := h
        refine va_iast hx hb hK hP hD hS 1 1 rfl rfl hin dX7_see_65 (fun H locs hP hD hS => ?_)
        have hP : va_P D vwCl [zM am f, zA (kk 1) (am 7) 12 (upd (upd sn ((2 : Int32) * (f 22)).toNatClampNeg p1) (((2 : Int32) * (f 22)) + (1 : Int32)).toNatClampNeg p2)] H := hP
        have hD : va_D A [zM am f, zA (kk 1) (am 7) 12 (upd (upd sn ((2 : Int32) * (f 22)).toNatClampNeg p1) (((2 : Int32) * (f 22)) + (1 : Int32)).toNatClampNeg p2)] := hD
        refine lv_aload_n hx hb dX7_see_66 rfl (lv_at hl 0 rfl) ?_
        refine lv_dup hx hb dX7_see_67 rfl ?_
        refine va_get (D := D) (ci := 7) (v := .int (f 22)) (C := RX7) (T := TX7) (N := 29) hx hb hts in_X7 hown hK hP 0 rfl rfl 22 (Nat.le_of_ble_eq_true rfl) (hts _ q961) (fun _ h9 => h9) rfl dX7_see_68 ?_
        refine lv_iconst (v := (1 : Int32)) hx hb dX7_see_71 (by decide) ?_
        refine lv_iadd hx hb dX7_see_72 ?_
        refine va_put (D := D) (ci := 7) (v := .int ((f 22) + (1 : Int32))) (C := RX7) (T := TX7) (N := 29) hx hb hts in_X7 tyX7 tyX7_ok nmX7 hown hK hP hD hS 0 rfl rfl 22 (Nat.le_of_ble_eq_true rfl) (hts _ q961) (fun _ h9 => h9) rfl (tyX7_ok 22 (Nat.le_of_ble_eq_true rfl)) rfl rfl (Nat.le_of_ble_eq_true rfl) dX7_see_73 (fun H locs hP hD hS => ?_)
        have hP : va_P D vwCl [zM am (upd f 22 ((f 22) + (1 : Int32))), zA (kk 1) (am 7) 12 (upd (upd sn ((2 : Int32) * (f 22)).toNatClampNeg p1) (((2 : Int32) * (f 22)) + (1 : Int32)).toNatClampNeg p2)] H := hP
        have hD : va_D A [zM am (upd f 22 ((f 22) + (1 : Int32))), zA (kk 1) (am 7) 12 (upd (upd sn ((2 : Int32) * (f 22)).toNatClampNeg p1) (((2 : Int32) * (f 22)) + (1 : Int32)).toNatClampNeg p2)] := hD
        refine lv_aload_n hx hb dX7_see_76 rfl (lv_at hl 0 rfl) ?_
        refine va_get (D := D) (ci := 7) (v := .int ((f 22) + (1 : Int32))) (C := RX7) (T := TX7) (N := 29) hx hb hts in_X7 hown hK hP 0 rfl rfl 22 (Nat.le_of_ble_eq_true rfl) (hts _ q961) (fun _ h9 => h9) rfl dX7_see_77 ?_
        exact zr_i hx hb hr hlk rfl hP hD hS ((upd f 22 ((f 22) + (1 : Int32))), (upd (upd sn ((2 : Int32) * (f 22)).toNatClampNeg p1) (((2 : Int32) * (f 22)) + (1 : Int32)).toNatClampNeg p2)) [0, 1] rfl (by decide) dX7_see_80 h
      · have h := h.1 c_4
        refine lv_bipush (v := (-3 : Int32)) hx hb dX7_see_37 (by decide) ?_
        exact zr_i hx hb hr hlk rfl hP hD hS (f, sn) [0, 1] rfl (by decide) dX7_see_39 h
    refine lv_if_ne (tgt := 28) hx hb dX7_see_17 (by decide) (fun c_5 => ?_) (fun c_5 => ?_)
    · have h := h.2 c_5
      exact cut_28 f sn h _ _ (hP.sub [1, 0] rfl) (hD.sub [1, 0] (by decide) rfl) hS _ (lv_sub hl [0, 1, 2] rfl)
    · have h := h.1 c_5
      refine lv_iload_n hx hb dX7_see_20 rfl (lv_at hl 2 rfl) ?_
      refine lv_bipush (v := (9 : Int32)) hx hb dX7_see_21 (by decide) ?_
      refine lv_icmp_eq (tgt := 28) hx hb dX7_see_23 (by decide) (fun c_6 => ?_) (fun c_6 => ?_)
      · have h := h.1 c_6
        exact cut_28 f sn h _ _ (hP.sub [1, 0] rfl) (hD.sub [1, 0] (by decide) rfl) hS _ (lv_sub hl [0, 1, 2] rfl)
      · have h := h.2 c_6
        refine lv_iconst (v := (-1 : Int32)) hx hb dX7_see_26 (by decide) ?_
        exact zr_i hx hb hr hlk rfl hP hD hS (f, sn) [1, 0] rfl (by decide) dX7_see_27 h
def wpX7_forget (f : Nat → Int32) (p1 : Int32) (Q : Int32 → (Nat → Int32) → Prop) : Prop :=
  (wpX7_in (p1.toInt64) (0 : Int64) ((f 22).toInt64) (fun r_1 => ((r_1 = 0 → Q (-1 : Int32) f) ∧ (¬ r_1 = 0 → Q (f 22) (upd f 22 p1)))))
set_option maxHeartbeats 4000000 in
theorem metX7_forget (l : Launch) (D : va_G) (kk : Nat → ClassId) (am : Nat → Nat) (sz : Nat) (f : Nat → Int32) (p1 : Int32) (Q : Int32 → (Nat → Int32) → Prop) (h : wpX7_forget f p1 Q) : Met l yX7_forget (ws_ yX7_forget cX7_forget 3 (some .int)) { frames := 1, cells := 0, slots := 0, locals := 25 } (va_Pc ([.ref (am 0), .int p1] : List Value) (zPc D kk [zM am f] sz)) (va_Qi (fun (r : Int32) (u : (Nat → Int32)) => Q r u) (zB D (va_A [zM am f] sz) (fun u : (Nat → Int32) => [zM am u])) (va_A [zM am f] sz)) 0 0 (va_A [zM am f] sz) := by
  refine zMet (Qc := fun A => va_Qi (fun (r : Int32) (u : (Nat → Int32)) => Q r u) (zB D A (fun u : (Nat → Int32) => [zM am u])) A) (by decide) (Nat.le_of_ble_eq_true rfl) ?_
  intro p e s m below meth c A X hP hD hS ls hl
  obtain ⟨hx, hb, hr, hml, hown, hts, hlk, hnm, hK, hN, hA⟩ := X
  have hown : s.vm.findClass "LoseLeagueModel" = some m.cls := hown
  have hl : lv_has ls 3 [(0, .ref (am 0)), (1, .int p1)] := hl
  unfold wpX7_forget at h
  refine lv_iload_n hx hb dX7_forget_0 rfl (lv_at hl 1 rfl) ?_
  refine lv_i2l hx hb dX7_forget_1 rfl ?_
  refine lv_lconst (v := (0 : Int64)) hx hb dX7_forget_2 (by decide) ?_
  refine lv_aload_n hx hb dX7_forget_3 rfl (lv_at hl 0 rfl) ?_
  refine va_get (D := D) (ci := 7) (v := .int (f 22)) (C := RX7) (T := TX7) (N := 29) hx hb hts in_X7 hown hK hP 0 rfl rfl 22 (Nat.le_of_ble_eq_true rfl) (hts _ q961) (fun _ h9 => h9) rfl dX7_forget_4 ?_
  refine lv_i2l hx hb dX7_forget_7 rfl ?_
  refine zc_i (wc := []) (wr := [zM am f]) (w1 := (fun u : Unit => [])) (rest := []) [] [0] rfl rfl (by decide) (by decide) (by decide) hA hP hD hS (fun hP hD => va_runS (As := [.long (p1.toInt64), .long (0 : Int64), .long ((f 22).toInt64)]) (rest := []) ⟨hx, hb, hml, hown, hts⟩ (metX7_in l D kk _ (p1.toInt64) (0 : Int64) ((f 22).toInt64) _ h) (va_cwS 3 hts (lw_S q1033 q1034 q71 q1035) rfl rfl rfl pdX7_in.2 ⟨(Nat.le_of_ble_eq_true rfl), (Nat.le_of_ble_eq_true rfl)⟩) (zp_S hK hN hP hD) rfl rfl hl.1 rfl (lv_room (Nat.le_of_ble_eq_true rfl)) dX7_forget_8 ⟨(Nat.le_of_ble_eq_true rfl), (Nat.le_of_ble_eq_true rfl)⟩) (fun r_1 u H locs h hP hD hS => ?_)
  try dsimp only at h
  have hP : va_P D vwCl [zM am f] H := hP
  have hD : va_D A [zM am f] := hD
  refine lv_if_ne (tgt := 16) hx hb dX7_forget_11 (by decide) (fun c_2 => ?_) (fun c_2 => ?_)
  · have h := h.2 c_2
    refine lv_aload_n hx hb dX7_forget_16 rfl (lv_at hl 0 rfl) ?_
    refine va_get (D := D) (ci := 7) (v := .int (f 22)) (C := RX7) (T := TX7) (N := 29) hx hb hts in_X7 hown hK hP 0 rfl rfl 22 (Nat.le_of_ble_eq_true rfl) (hts _ q961) (fun _ h9 => h9) rfl dX7_forget_17 ?_
    refine lv_istore_n (lv' := [(2, .int (f 22)), (0, .ref (am 0)), (1, .int p1)]) hx hb dX7_forget_20 rfl hl (by decide) rfl (fun ls hl => ?_)
    refine lv_aload_n hx hb dX7_forget_21 rfl (lv_at hl 1 rfl) ?_
    refine lv_iload_n hx hb dX7_forget_22 rfl (lv_at hl 2 rfl) ?_
    refine va_put (D := D) (ci := 7) (v := .int p1) (C := RX7) (T := TX7) (N := 29) hx hb hts in_X7 tyX7 tyX7_ok nmX7 hown hK hP hD hS 0 rfl rfl 22 (Nat.le_of_ble_eq_true rfl) (hts _ q961) (fun _ h9 => h9) rfl (tyX7_ok 22 (Nat.le_of_ble_eq_true rfl)) rfl rfl (Nat.le_of_ble_eq_true rfl) dX7_forget_23 (fun H locs hP hD hS => ?_)
    have hP : va_P D vwCl [zM am (upd f 22 p1)] H := hP
    have hD : va_D A [zM am (upd f 22 p1)] := hD
    refine lv_iload_n hx hb dX7_forget_26 rfl (lv_at hl 0 rfl) ?_
    exact zr_i hx hb hr hlk rfl hP hD hS ((upd f 22 p1)) [0] rfl (by decide) dX7_forget_27 h
  · have h := h.1 c_2
    refine lv_iconst (v := (-1 : Int32)) hx hb dX7_forget_14 (by decide) ?_
    exact zr_i hx hb hr hlk rfl hP hD hS (f) [0] rfl (by decide) dX7_forget_15 h
def wpX7_isAsSeen_109 (sn : Nat → Int32) (p1 : Int32) (Q : Int32 → (Nat → Int32) → (Nat → Int32) → (Nat → Int32) → Prop) (k12 : (Nat → Int32) → (Nat → Int32) → (Nat → Int32) → Int32 → Int32 → Prop) (k62 : (Nat → Int32) → (Nat → Int32) → (Nat → Int32) → Int32 → Int32 → Int32 → Int32 → Prop) (f : Nat → Int32) (st : Nat → Int32) (lb : Nat → Int32) (x3 : Int32) (x4 : Int32) (x5 : Int32) (s0 : Int32) : Prop :=
  k62 f st lb s0 x3 x4 (x5 + 1)
def wpX7_isAsSeen_108 (sn : Nat → Int32) (p1 : Int32) (Q : Int32 → (Nat → Int32) → (Nat → Int32) → (Nat → Int32) → Prop) (k12 : (Nat → Int32) → (Nat → Int32) → (Nat → Int32) → Int32 → Int32 → Prop) (k62 : (Nat → Int32) → (Nat → Int32) → (Nat → Int32) → Int32 → Int32 → Int32 → Int32 → Prop) (f : Nat → Int32) (st : Nat → Int32) (lb : Nat → Int32) (x3 : Int32) (x4 : Int32) (x5 : Int32) : Prop :=
  wpX7_isAsSeen_109 sn p1 Q k12 k62 f st lb x3 x4 x5 (0 : Int32)
def wpX7_isAsSeen_104 (sn : Nat → Int32) (p1 : Int32) (Q : Int32 → (Nat → Int32) → (Nat → Int32) → (Nat → Int32) → Prop) (k12 : (Nat → Int32) → (Nat → Int32) → (Nat → Int32) → Int32 → Int32 → Prop) (k62 : (Nat → Int32) → (Nat → Int32) → (Nat → Int32) → Int32 → Int32 → Int32 → Int32 → Prop) (f : Nat → Int32) (st : Nat → Int32) (lb : Nat → Int32) (x3 : Int32) (x4 : Int32) (x5 : Int32) : Prop :=
  wpX7_isAsSeen_109 sn p1 Q k12 k62 f st lb x3 x4 x5 (1 : Int32)
def wbX7_isAsSeen_62 (sn : Nat → Int32) (p1 : Int32) (Q : Int32 → (Nat → Int32) → (Nat → Int32) → (Nat → Int32) → Prop) (k12 : (Nat → Int32) → (Nat → Int32) → (Nat → Int32) → Int32 → Int32 → Prop) (k62 : (Nat → Int32) → (Nat → Int32) → (Nat → Int32) → Int32 → Int32 → Int32 → Int32 → Prop) (f : Nat → Int32) (st : Nat → Int32) (lb : Nat → Int32) (x2 : Int32) (x3 : Int32) (x4 : Int32) (x5 : Int32) : Prop :=
  (((f 22) ≤ x5 → k12 f st lb x2 (x3 + 1)) ∧ (¬ (f 22) ≤ x5 → ((x2 = 0 → wpX7_isAsSeen_108 sn p1 Q k12 k62 f st lb x3 x4 x5) ∧ (¬ x2 = 0 → (vp_in ((2 : Int32) * x5) 12 ∧ (((sn ((2 : Int32) * x5).toNatClampNeg) = x3 → (vp_in (((2 : Int32) * x5) + (1 : Int32)) 12 ∧ ((x4 = (sn (((2 : Int32) * x5) + (1 : Int32)).toNatClampNeg) → wpX7_isAsSeen_104 sn p1 Q k12 k62 f st lb x3 x4 x5) ∧ (¬ x4 = (sn (((2 : Int32) * x5) + (1 : Int32)).toNatClampNeg) → wpX7_isAsSeen_108 sn p1 Q k12 k62 f st lb x3 x4 x5)))) ∧ (¬ (sn ((2 : Int32) * x5).toNatClampNeg) = x3 → wpX7_isAsSeen_104 sn p1 Q k12 k62 f st lb x3 x4 x5)))))))
def wpX7_isAsSeen_62 (sn : Nat → Int32) (p1 : Int32) (Q : Int32 → (Nat → Int32) → (Nat → Int32) → (Nat → Int32) → Prop) (k12 : (Nat → Int32) → (Nat → Int32) → (Nat → Int32) → Int32 → Int32 → Prop) (n : Nat) : (Nat → Int32) → (Nat → Int32) → (Nat → Int32) → Int32 → Int32 → Int32 → Int32 → Prop :=
  Nat.rec (motive := fun _ => (Nat → Int32) → (Nat → Int32) → (Nat → Int32) → Int32 → Int32 → Int32 → Int32 → Prop) (fun _ _ _ _ _ _ _ => False) (fun _ k => wbX7_isAsSeen_62 sn p1 Q k12 k) n
def wpX7_isAsSeen_44 (sn : Nat → Int32) (p1 : Int32) (Q : Int32 → (Nat → Int32) → (Nat → Int32) → (Nat → Int32) → Prop) (k12 : (Nat → Int32) → (Nat → Int32) → (Nat → Int32) → Int32 → Int32 → Prop) (f : Nat → Int32) (st : Nat → Int32) (lb : Nat → Int32) (x2 : Int32) (x3 : Int32) (s0 : Int32) : Prop :=
  (vp_in (((21 : Int32) * p1) + x3) 441 ∧ (∃ n : Nat, wpX7_isAsSeen_62 sn p1 Q k12 n f st (upd lb (((21 : Int32) * p1) + x3).toNatClampNeg s0) x2 x3 s0 (0 : Int32)))
def wbX7_isAsSeen_12 (sn : Nat → Int32) (p1 : Int32) (Q : Int32 → (Nat → Int32) → (Nat → Int32) → (Nat → Int32) → Prop) (k12 : (Nat → Int32) → (Nat → Int32) → (Nat → Int32) → Int32 → Int32 → Prop) (f : Nat → Int32) (st : Nat → Int32) (lb : Nat → Int32) (x2 : Int32) (x3 : Int32) : Prop :=
  (((20 : Int32) < x3 → (narrow .boolean (.int x2) = .int x2 ∧ Q x2 f st lb)) ∧ (¬ (20 : Int32) < x3 → (wpX7_weekOn f st (168 : Int32) (0 : Int32) (fun f_5 st_6 => (((f_5 16) = (-4 : Int32) → wpX7_isAsSeen_44 sn p1 Q k12 f_5 st_6 lb x2 x3 (9 : Int32)) ∧ (¬ (f_5 16) = (-4 : Int32) → wpX7_isAsSeen_44 sn p1 Q k12 f_5 st_6 lb x2 x3 (f_5 16)))))))
def wpX7_isAsSeen_12 (sn : Nat → Int32) (p1 : Int32) (Q : Int32 → (Nat → Int32) → (Nat → Int32) → (Nat → Int32) → Prop) (n : Nat) : (Nat → Int32) → (Nat → Int32) → (Nat → Int32) → Int32 → Int32 → Prop :=
  Nat.rec (motive := fun _ => (Nat → Int32) → (Nat → Int32) → (Nat → Int32) → Int32 → Int32 → Prop) (fun _ _ _ _ _ => False) (fun _ k => wbX7_isAsSeen_12 sn p1 Q  k) n
def wpX7_isAsSeen (f : Nat → Int32) (st : Nat → Int32) (sn : Nat → Int32) (lb : Nat → Int32) (p1 : Int32) (Q : Int32 → (Nat → Int32) → (Nat → Int32) → (Nat → Int32) → Prop) : Prop :=
  (wpX7_copies st (0 : Int32) (168 : Int32) (fun st_2 => (∃ n : Nat, wpX7_isAsSeen_12 sn p1 Q  n f st_2 lb (1 : Int32) (0 : Int32))))
set_option maxHeartbeats 4000000 in
theorem metX7_isAsSeen (l : Launch) (D : va_G) (kk : Nat → ClassId) (am : Nat → Nat) (sz : Nat) (f : Nat → Int32) (st : Nat → Int32) (sn : Nat → Int32) (lb : Nat → Int32) (p1 : Int32) (Q : Int32 → (Nat → Int32) → (Nat → Int32) → (Nat → Int32) → Prop) (h : wpX7_isAsSeen f st sn lb p1 Q) : Met l yX7_isAsSeen (ws_ yX7_isAsSeen cX7_isAsSeen 6 (some .boolean)) { frames := 4, cells := 0, slots := 0, locals := 99 } (va_Pc ([.ref (am 0), .int p1] : List Value) (zPc D kk [zM am f, zA (kk 1) (am 1) 252 st, zA (kk 1) (am 7) 12 sn, zA (kk 1) (am 8) 441 lb] sz)) (va_Qi (fun (r : Int32) (u : (Nat → Int32) × (Nat → Int32) × (Nat → Int32)) => Q r u.1 u.2.1 u.2.2) (zB D (va_A [zM am f, zA (kk 1) (am 1) 252 st, zA (kk 1) (am 7) 12 sn, zA (kk 1) (am 8) 441 lb] sz) (fun u : (Nat → Int32) × (Nat → Int32) × (Nat → Int32) => [zM am u.1, zA (kk 1) (am 1) 252 u.2.1, zA (kk 1) (am 7) 12 sn, zA (kk 1) (am 8) 441 u.2.2])) (va_A [zM am f, zA (kk 1) (am 1) 252 st, zA (kk 1) (am 7) 12 sn, zA (kk 1) (am 8) 441 lb] sz)) 0 0 (va_A [zM am f, zA (kk 1) (am 1) 252 st, zA (kk 1) (am 7) 12 sn, zA (kk 1) (am 8) 441 lb] sz) := by
  refine zMet (Qc := fun A => va_Qi (fun (r : Int32) (u : (Nat → Int32) × (Nat → Int32) × (Nat → Int32)) => Q r u.1 u.2.1 u.2.2) (zB D A (fun u : (Nat → Int32) × (Nat → Int32) × (Nat → Int32) => [zM am u.1, zA (kk 1) (am 1) 252 u.2.1, zA (kk 1) (am 7) 12 sn, zA (kk 1) (am 8) 441 u.2.2])) A) (by decide) (Nat.le_of_ble_eq_true rfl) ?_
  intro p e s m below meth c A X hP hD hS ls hl
  obtain ⟨hx, hb, hr, hml, hown, hts, hlk, hnm, hK, hN, hA⟩ := X
  have hown : s.vm.findClass "LoseLeagueModel" = some m.cls := hown
  have hl : lv_has ls 6 [(0, .ref (am 0)), (1, .int p1)] := hl
  unfold wpX7_isAsSeen at h
  refine lv_aload_n hx hb dX7_isAsSeen_0 rfl (lv_at hl 0 rfl) ?_
  refine lv_iconst (v := (0 : Int32)) hx hb dX7_isAsSeen_1 (by decide) ?_
  refine lv_sipush (v := (168 : Int32)) hx hb dX7_isAsSeen_2 (by decide) ?_
  have hrc := va_recv hK hP (ci := 7) (q0 := 0) rfl rfl
  refine zc_v (wc := [zM am f, zA (kk 1) (am 1) 252 st]) (wr := [zA (kk 1) (am 7) 12 sn, zA (kk 1) (am 8) 441 lb]) (w1 := (fun u : (Nat → Int32) => [zM am f, zA (kk 1) (am 1) 252 u])) (rest := []) [0, 1] [2, 3] rfl rfl (by decide) (by decide) (by decide) hA hP hD hS (fun hP hD => va_runV (As := [.int (0 : Int32), .int (168 : Int32)]) (rest := []) ⟨hx, hb, hml, hown, hts⟩ (metX7_copies l D kk am _ f st (0 : Int32) (168 : Int32) _ h) (cwV 2 hts (lw_V q1189 q1191 qs57 q71 q1192) rfl rfl rfl pdX7_copies ⟨(Nat.le_of_ble_eq_true rfl), (Nat.le_of_ble_eq_true rfl)⟩) (zp_V hK hN hrc hP hD) rfl rfl hl.1 rfl (lv_room (Nat.le_of_ble_eq_true rfl)) dX7_isAsSeen_5 ⟨(Nat.le_of_ble_eq_true rfl), (Nat.le_of_ble_eq_true rfl)⟩) (fun u H locs h hP hD hS => ?_)
  obtain ⟨st_2, rfl⟩ : ∃ z, z = u := ⟨_, rfl⟩
  try dsimp only at h
  have hP : va_P D vwCl [zA (kk 1) (am 7) 12 sn, zA (kk 1) (am 8) 441 lb, zM am f, zA (kk 1) (am 1) 252 st_2] H := hP
  have hD : va_D A [zA (kk 1) (am 7) 12 sn, zA (kk 1) (am 8) 441 lb, zM am f, zA (kk 1) (am 1) 252 st_2] := hD
  refine lv_iconst (v := (1 : Int32)) hx hb dX7_isAsSeen_8 (by decide) ?_
  refine lv_istore_n (lv' := [(2, .int (1 : Int32)), (0, .ref (am 0)), (1, .int p1)]) hx hb dX7_isAsSeen_9 rfl hl (by decide) rfl (fun ls hl => ?_)
  refine lv_iconst (v := (0 : Int32)) hx hb dX7_isAsSeen_10 (by decide) ?_
  have cut_12 : ∀ (nl12 : Nat) (f : Nat → Int32) (st : Nat → Int32) (lb : Nat → Int32) (x2 : Int32) (x3 : Int32), wpX7_isAsSeen_12 sn p1 Q  nl12 f st lb x2 x3 → ∀ (H : Heap) (locs : List Loc), va_P D vwCl [zM am f, zA (kk 1) (am 1) 252 st, zA (kk 1) (am 7) 12 sn, zA (kk 1) (am 8) 441 lb] H → va_D A [zM am f, zA (kk 1) (am 1) 252 st, zA (kk 1) (am 7) 12 sn, zA (kk 1) (am 8) 441 lb] → va_S A s.heap H locs → ∀ ls : Array Slot, lv_has ls 6 [(2, .int x2), (3, .int x3), (0, .ref (am 0)), (1, .int p1)] → W p l e { frames := 4, cells := 0, slots := 0, locals := 99 } s m ([.ref (am 0), .int p1] : List Value).toArray below meth c H locs 0 0 (MQ below (va_Qi (fun (r : Int32) (u : (Nat → Int32) × (Nat → Int32) × (Nat → Int32)) => Q r u.1 u.2.1 u.2.2) (zB D A (fun u : (Nat → Int32) × (Nat → Int32) × (Nat → Int32) => [zM am u.1, zA (kk 1) (am 1) 252 u.2.1, zA (kk 1) (am 7) 12 sn, zA (kk 1) (am 8) 441 u.2.2])) A) ([.ref (am 0), .int p1] : List Value).toArray s 0 0 A) (F0 m 12 ls []) := by
    intro nl12
    induction nl12 with
    | zero => intro f st lb x2 x3 h; exact absurd h id
    | succ nl12 ih_12 =>
      intro f st lb x2 x3 h H locs hP hD hS ls hl
      have h : wbX7_isAsSeen_12 sn p1 Q  (wpX7_isAsSeen_12 sn p1 Q  nl12) f st lb x2 x3 := h
      unfold wbX7_isAsSeen_12 at h
      refine lv_iload_n hx hb dX7_isAsSeen_12 rfl (lv_at hl 1 rfl) ?_
      refine lv_bipush (v := (20 : Int32)) hx hb dX7_isAsSeen_13 (by decide) ?_
      refine lv_icmp_gt (tgt := 122) hx hb dX7_isAsSeen_15 (by decide) (fun c_3 => ?_) (fun c_3 => ?_)
      · have h := h.1 c_3
        refine lv_iload_n hx hb dX7_isAsSeen_122 rfl (lv_at hl 0 rfl) ?_
        obtain ⟨hnar, h⟩ := h
        exact zr_i hx hb hr hlk hnar hP hD hS (f, st, lb) [0, 1, 2, 3] rfl (by decide) dX7_isAsSeen_123 h
      · have h := h.2 c_3
        refine lv_aload_n hx hb dX7_isAsSeen_18 rfl (lv_at hl 2 rfl) ?_
        refine lv_sipush (v := (168 : Int32)) hx hb dX7_isAsSeen_19 (by decide) ?_
        refine lv_iconst (v := (0 : Int32)) hx hb dX7_isAsSeen_22 (by decide) ?_
        have hrc := va_recv hK hP (ci := 7) (q0 := 0) rfl rfl
        refine zc_v (wc := [zM am f, zA (kk 1) (am 1) 252 st]) (wr := [zA (kk 1) (am 7) 12 sn, zA (kk 1) (am 8) 441 lb]) (w1 := (fun u : (Nat → Int32) × (Nat → Int32) => [zM am u.1, zA (kk 1) (am 1) 252 u.2])) (rest := []) [0, 1] [2, 3] rfl rfl (by decide) (by decide) (by decide) hA hP hD hS (fun hP hD => va_runV (As := [.int (168 : Int32), .int (0 : Int32)]) (rest := []) ⟨hx, hb, hml, hown, hts⟩ (metX7_weekOn l D kk am _ f st (168 : Int32) (0 : Int32) _ h) (cwV 2 hts (lw_V q1168 q1170 qs53 q71 q1171) rfl rfl rfl pdX7_weekOn ⟨(Nat.le_of_ble_eq_true rfl), (Nat.le_of_ble_eq_true rfl)⟩) (zp_V hK hN hrc hP hD) rfl rfl hl.1 rfl (lv_room (Nat.le_of_ble_eq_true rfl)) dX7_isAsSeen_23 ⟨(Nat.le_of_ble_eq_true rfl), (Nat.le_of_ble_eq_true rfl)⟩) (fun u H locs h hP hD hS => ?_)
        obtain ⟨f_5, st_6⟩ := u
        try dsimp only at h
        have hP : va_P D vwCl [zA (kk 1) (am 7) 12 sn, zA (kk 1) (am 8) 441 lb, zM am f_5, zA (kk 1) (am 1) 252 st_6] H := hP
        have hD : va_D A [zA (kk 1) (am 7) 12 sn, zA (kk 1) (am 8) 441 lb, zM am f_5, zA (kk 1) (am 1) 252 st_6] := hD
        refine lv_aload_n hx hb dX7_isAsSeen_26 rfl (lv_at hl 2 rfl) ?_
        refine va_get (D := D) (ci := 7) (v := .int (f_5 16)) (C := RX7) (T := TX7) (N := 29) hx hb hts in_X7 hown hK hP 2 rfl rfl 16 (Nat.le_of_ble_eq_true rfl) (hts _ q955) (fun _ h9 => h9) rfl dX7_isAsSeen_27 ?_
        refine lv_bipush (v := (-4 : Int32)) hx hb dX7_isAsSeen_30 (by decide) ?_
        have cut_44 : ∀ (f : Nat → Int32) (st : Nat → Int32) (lb : Nat → Int32) (x2 : Int32) (x3 : Int32) (s0 : Int32), wpX7_isAsSeen_44 sn p1 Q (wpX7_isAsSeen_12 sn p1 Q  nl12) f st lb x2 x3 s0 → ∀ (H : Heap) (locs : List Loc), va_P D vwCl [zM am f, zA (kk 1) (am 1) 252 st, zA (kk 1) (am 7) 12 sn, zA (kk 1) (am 8) 441 lb] H → va_D A [zM am f, zA (kk 1) (am 1) 252 st, zA (kk 1) (am 7) 12 sn, zA (kk 1) (am 8) 441 lb] → va_S A s.heap H locs → ∀ ls : Array Slot, lv_has ls 6 [(2, .int x2), (3, .int x3), (0, .ref (am 0)), (1, .int p1)] → W p l e { frames := 4, cells := 0, slots := 0, locals := 99 } s m ([.ref (am 0), .int p1] : List Value).toArray below meth c H locs 0 0 (MQ below (va_Qi (fun (r : Int32) (u : (Nat → Int32) × (Nat → Int32) × (Nat → Int32)) => Q r u.1 u.2.1 u.2.2) (zB D A (fun u : (Nat → Int32) × (Nat → Int32) × (Nat → Int32) => [zM am u.1, zA (kk 1) (am 1) 252 u.2.1, zA (kk 1) (am 7) 12 sn, zA (kk 1) (am 8) 441 u.2.2])) A) ([.ref (am 0), .int p1] : List Value).toArray s 0 0 A) (F0 m 44 ls [.int s0]) := by
          intro f st lb x2 x3 s0 h H locs hP hD hS ls hl
          unfold wpX7_isAsSeen_44 at h
          refine lv_istore (lv' := [(4, .int s0), (2, .int x2), (3, .int x3), (0, .ref (am 0)), (1, .int p1)]) hx hb dX7_isAsSeen_44 hl (by decide) rfl (fun ls hl => ?_)
          refine lv_aload_n hx hb dX7_isAsSeen_46 rfl (lv_at hl 3 rfl) ?_
          refine va_get (D := D) (ci := 7) (v := .ref (am 8)) (C := RX7) (T := TX7) (N := 29) hx hb hts in_X7 hown hK hP 0 rfl rfl 23 (Nat.le_of_ble_eq_true rfl) (hts _ q962) (fun _ h9 => h9) rfl dX7_isAsSeen_47 ?_
          refine lv_bipush (v := (21 : Int32)) hx hb dX7_isAsSeen_50 (by decide) ?_
          refine lv_iload_n hx hb dX7_isAsSeen_52 rfl (lv_at hl 4 rfl) ?_
          refine lv_imul hx hb dX7_isAsSeen_53 ?_
          refine lv_iload_n hx hb dX7_isAsSeen_54 rfl (lv_at hl 2 rfl) ?_
          refine lv_iadd hx hb dX7_isAsSeen_55 ?_
          refine lv_iload hx hb dX7_isAsSeen_56 (lv_at hl 0 rfl) ?_
          obtain ⟨hin, h⟩ := h
          refine va_iast hx hb hK hP hD hS 3 1 rfl rfl hin dX7_isAsSeen_58 (fun H locs hP hD hS => ?_)
          have hP : va_P D vwCl [zM am f, zA (kk 1) (am 1) 252 st, zA (kk 1) (am 7) 12 sn, zA (kk 1) (am 8) 441 (upd lb (((21 : Int32) * p1) + x3).toNatClampNeg s0)] H := hP
          have hD : va_D A [zM am f, zA (kk 1) (am 1) 252 st, zA (kk 1) (am 7) 12 sn, zA (kk 1) (am 8) 441 (upd lb (((21 : Int32) * p1) + x3).toNatClampNeg s0)] := hD
          refine lv_iconst (v := (0 : Int32)) hx hb dX7_isAsSeen_59 (by decide) ?_
          have cut_62 : ∀ (nl62 : Nat) (f : Nat → Int32) (st : Nat → Int32) (lb : Nat → Int32) (x2 : Int32) (x3 : Int32) (x4 : Int32) (x5 : Int32), wpX7_isAsSeen_62 sn p1 Q (wpX7_isAsSeen_12 sn p1 Q  nl12) nl62 f st lb x2 x3 x4 x5 → ∀ (H : Heap) (locs : List Loc), va_P D vwCl [zM am f, zA (kk 1) (am 1) 252 st, zA (kk 1) (am 7) 12 sn, zA (kk 1) (am 8) 441 lb] H → va_D A [zM am f, zA (kk 1) (am 1) 252 st, zA (kk 1) (am 7) 12 sn, zA (kk 1) (am 8) 441 lb] → va_S A s.heap H locs → ∀ ls : Array Slot, lv_has ls 6 [(2, .int x2), (3, .int x3), (4, .int x4), (5, .int x5), (0, .ref (am 0)), (1, .int p1)] → W p l e { frames := 4, cells := 0, slots := 0, locals := 99 } s m ([.ref (am 0), .int p1] : List Value).toArray below meth c H locs 0 0 (MQ below (va_Qi (fun (r : Int32) (u : (Nat → Int32) × (Nat → Int32) × (Nat → Int32)) => Q r u.1 u.2.1 u.2.2) (zB D A (fun u : (Nat → Int32) × (Nat → Int32) × (Nat → Int32) => [zM am u.1, zA (kk 1) (am 1) 252 u.2.1, zA (kk 1) (am 7) 12 sn, zA (kk 1) (am 8) 441 u.2.2])) A) ([.ref (am 0), .int p1] : List Value).toArray s 0 0 A) (F0 m 62 ls []) := by
            intro nl62
            induction nl62 with
            | zero => intro f st lb x2 x3 x4 x5 h; exact absurd h id
            | succ nl62 ih_62 =>
              intro f st lb x2 x3 x4 x5 h H locs hP hD hS ls hl
              have h : wbX7_isAsSeen_62 sn p1 Q (wpX7_isAsSeen_12 sn p1 Q  nl12) (wpX7_isAsSeen_62 sn p1 Q (wpX7_isAsSeen_12 sn p1 Q  nl12) nl62) f st lb x2 x3 x4 x5 := h
              unfold wbX7_isAsSeen_62 at h
              refine lv_iload hx hb dX7_isAsSeen_62 (lv_at hl 3 rfl) ?_
              refine lv_aload_n hx hb dX7_isAsSeen_64 rfl (lv_at hl 4 rfl) ?_
              refine va_get (D := D) (ci := 7) (v := .int (f 22)) (C := RX7) (T := TX7) (N := 29) hx hb hts in_X7 hown hK hP 0 rfl rfl 22 (Nat.le_of_ble_eq_true rfl) (hts _ q961) (fun _ h9 => h9) rfl dX7_isAsSeen_65 ?_
              refine lv_icmp_ge (tgt := 116) hx hb dX7_isAsSeen_68 (by decide) (fun c_7 => ?_) (fun c_7 => ?_)
              · have h := h.1 c_7
                refine lv_iinc (v := (x3 + 1)) (lv' := [(3, .int (x3 + 1)), (2, .int x2), (4, .int x4), (5, .int x5), (0, .ref (am 0)), (1, .int p1)]) hx hb dX7_isAsSeen_116 hl (k := 1) rfl rfl (by decide) rfl (fun ls hl => ?_)
                refine lv_goto (tgt := 12) hx hb dX7_isAsSeen_119 (by decide) ?_
                exact ih_12 f st lb x2 (x3 + 1) h _ _ hP hD hS _ (lv_sub hl [1, 0, 4, 5] rfl)
              · have h := h.2 c_7
                refine lv_iload_n hx hb dX7_isAsSeen_71 rfl (lv_at hl 0 rfl) ?_
                have cut_109 : ∀ (f : Nat → Int32) (st : Nat → Int32) (lb : Nat → Int32) (x3 : Int32) (x4 : Int32) (x5 : Int32) (s0 : Int32), wpX7_isAsSeen_109 sn p1 Q (wpX7_isAsSeen_12 sn p1 Q  nl12) (wpX7_isAsSeen_62 sn p1 Q (wpX7_isAsSeen_12 sn p1 Q  nl12) nl62) f st lb x3 x4 x5 s0 → ∀ (H : Heap) (locs : List Loc), va_P D vwCl [zM am f, zA (kk 1) (am 1) 252 st, zA (kk 1) (am 7) 12 sn, zA (kk 1) (am 8) 441 lb] H → va_D A [zM am f, zA (kk 1) (am 1) 252 st, zA (kk 1) (am 7) 12 sn, zA (kk 1) (am 8) 441 lb] → va_S A s.heap H locs → ∀ ls : Array Slot, lv_has ls 6 [(3, .int x3), (4, .int x4), (5, .int x5), (0, .ref (am 0)), (1, .int p1)] → W p l e { frames := 4, cells := 0, slots := 0, locals := 99 } s m ([.ref (am 0), .int p1] : List Value).toArray below meth c H locs 0 0 (MQ below (va_Qi (fun (r : Int32) (u : (Nat → Int32) × (Nat → Int32) × (Nat → Int32)) => Q r u.1 u.2.1 u.2.2) (zB D A (fun u : (Nat → Int32) × (Nat → Int32) × (Nat → Int32) => [zM am u.1, zA (kk 1) (am 1) 252 u.2.1, zA (kk 1) (am 7) 12 sn, zA (kk 1) (am 8) 441 u.2.2])) A) ([.ref (am 0), .int p1] : List Value).toArray s 0 0 A) (F0 m 109 ls [.int s0]) := by
                  intro f st lb x3 x4 x5 s0 h H locs hP hD hS ls hl
                  unfold wpX7_isAsSeen_109 at h
                  refine lv_istore_n (lv' := [(2, .int s0), (3, .int x3), (4, .int x4), (5, .int x5), (0, .ref (am 0)), (1, .int p1)]) hx hb dX7_isAsSeen_109 rfl hl (by decide) rfl (fun ls hl => ?_)
                  refine lv_iinc (v := (x5 + 1)) (lv' := [(5, .int (x5 + 1)), (2, .int s0), (3, .int x3), (4, .int x4), (0, .ref (am 0)), (1, .int p1)]) hx hb dX7_isAsSeen_110 hl (k := 3) rfl rfl (by decide) rfl (fun ls hl => ?_)
                  refine lv_goto (tgt := 62) hx hb dX7_isAsSeen_113 (by decide) ?_
                  exact ih_62 f st lb s0 x3 x4 (x5 + 1) h _ _ hP hD hS _ (lv_sub hl [1, 2, 3, 0, 4, 5] rfl)
                have cut_108 : ∀ (f : Nat → Int32) (st : Nat → Int32) (lb : Nat → Int32) (x3 : Int32) (x4 : Int32) (x5 : Int32), wpX7_isAsSeen_108 sn p1 Q (wpX7_isAsSeen_12 sn p1 Q  nl12) (wpX7_isAsSeen_62 sn p1 Q (wpX7_isAsSeen_12 sn p1 Q  nl12) nl62) f st lb x3 x4 x5 → ∀ (H : Heap) (locs : List Loc), va_P D vwCl [zM am f, zA (kk 1) (am 1) 252 st, zA (kk 1) (am 7) 12 sn, zA (kk 1) (am 8) 441 lb] H → va_D A [zM am f, zA (kk 1) (am 1) 252 st, zA (kk 1) (am 7) 12 sn, zA (kk 1) (am 8) 441 lb] → va_S A s.heap H locs → ∀ ls : Array Slot, lv_has ls 6 [(3, .int x3), (4, .int x4), (5, .int x5), (0, .ref (am 0)), (1, .int p1)] → W p l e { frames := 4, cells := 0, slots := 0, locals := 99 } s m ([.ref (am 0), .int p1] : List Value).toArray below meth c H locs 0 0 (MQ below (va_Qi (fun (r : Int32) (u : (Nat → Int32) × (Nat → Int32) × (Nat → Int32)) => Q r u.1 u.2.1 u.2.2) (zB D A (fun u : (Nat → Int32) × (Nat → Int32) × (Nat → Int32) => [zM am u.1, zA (kk 1) (am 1) 252 u.2.1, zA (kk 1) (am 7) 12 sn, zA (kk 1) (am 8) 441 u.2.2])) A) ([.ref (am 0), .int p1] : List Value).toArray s 0 0 A) (F0 m 108 ls []) := by
                  intro f st lb x3 x4 x5 h H locs hP hD hS ls hl
                  unfold wpX7_isAsSeen_108 at h
                  refine lv_iconst (v := (0 : Int32)) hx hb dX7_isAsSeen_108 (by decide) ?_
                  exact cut_109 f st lb x3 x4 x5 (0 : Int32) h _ _ hP hD hS _ (lv_sub hl [0, 1, 2, 3, 4] rfl)
                refine lv_if_eq (tgt := 108) hx hb dX7_isAsSeen_72 (by decide) (fun c_8 => ?_) (fun c_8 => ?_)
                · have h := h.1 c_8
                  exact cut_108 f st lb x3 x4 x5 h _ _ hP hD hS _ (lv_sub hl [1, 2, 3, 4, 5] rfl)
                · have h := h.2 c_8
                  refine lv_aload_n hx hb dX7_isAsSeen_75 rfl (lv_at hl 4 rfl) ?_
                  refine va_get (D := D) (ci := 7) (v := .ref (am 7)) (C := RX7) (T := TX7) (N := 29) hx hb hts in_X7 hown hK hP 0 rfl rfl 21 (Nat.le_of_ble_eq_true rfl) (hts _ q960) (fun _ h9 => h9) rfl dX7_isAsSeen_76 ?_
                  refine lv_iconst (v := (2 : Int32)) hx hb dX7_isAsSeen_79 (by decide) ?_
                  refine lv_iload hx hb dX7_isAsSeen_80 (lv_at hl 3 rfl) ?_
                  refine lv_imul hx hb dX7_isAsSeen_82 ?_
                  obtain ⟨hin, h⟩ := h
                  refine va_iald hx hb hK hP 2 1 rfl rfl hin dX7_isAsSeen_83 ?_
                  refine lv_iload_n hx hb dX7_isAsSeen_84 rfl (lv_at hl 1 rfl) ?_
                  have cut_104 : ∀ (f : Nat → Int32) (st : Nat → Int32) (lb : Nat → Int32) (x3 : Int32) (x4 : Int32) (x5 : Int32), wpX7_isAsSeen_104 sn p1 Q (wpX7_isAsSeen_12 sn p1 Q  nl12) (wpX7_isAsSeen_62 sn p1 Q (wpX7_isAsSeen_12 sn p1 Q  nl12) nl62) f st lb x3 x4 x5 → ∀ (H : Heap) (locs : List Loc), va_P D vwCl [zM am f, zA (kk 1) (am 1) 252 st, zA (kk 1) (am 7) 12 sn, zA (kk 1) (am 8) 441 lb] H → va_D A [zM am f, zA (kk 1) (am 1) 252 st, zA (kk 1) (am 7) 12 sn, zA (kk 1) (am 8) 441 lb] → va_S A s.heap H locs → ∀ ls : Array Slot, lv_has ls 6 [(3, .int x3), (4, .int x4), (5, .int x5), (0, .ref (am 0)), (1, .int p1)] → W p l e { frames := 4, cells := 0, slots := 0, locals := 99 } s m ([.ref (am 0), .int p1] : List Value).toArray below meth c H locs 0 0 (MQ below (va_Qi (fun (r : Int32) (u : (Nat → Int32) × (Nat → Int32) × (Nat → Int32)) => Q r u.1 u.2.1 u.2.2) (zB D A (fun u : (Nat → Int32) × (Nat → Int32) × (Nat → Int32) => [zM am u.1, zA (kk 1) (am 1) 252 u.2.1, zA (kk 1) (am 7) 12 sn, zA (kk 1) (am 8) 441 u.2.2])) A) ([.ref (am 0), .int p1] : List Value).toArray s 0 0 A) (F0 m 104 ls []) := by
                    intro f st lb x3 x4 x5 h H locs hP hD hS ls hl
                    unfold wpX7_isAsSeen_104 at h
                    refine lv_iconst (v := (1 : Int32)) hx hb dX7_isAsSeen_104 (by decide) ?_
                    refine lv_goto (tgt := 109) hx hb dX7_isAsSeen_105 (by decide) ?_
                    exact cut_109 f st lb x3 x4 x5 (1 : Int32) h _ _ hP hD hS _ (lv_sub hl [0, 1, 2, 3, 4] rfl)
                  refine lv_icmp_ne (tgt := 104) hx hb dX7_isAsSeen_85 (by decide) (fun c_9 => ?_) (fun c_9 => ?_)
                  · have h := h.2 c_9
                    exact cut_104 f st lb x3 x4 x5 h _ _ hP hD hS _ (lv_sub hl [1, 2, 3, 4, 5] rfl)
                  · have h := h.1 c_9
                    refine lv_iload hx hb dX7_isAsSeen_88 (lv_at hl 2 rfl) ?_
                    refine lv_aload_n hx hb dX7_isAsSeen_90 rfl (lv_at hl 4 rfl) ?_
                    refine va_get (D := D) (ci := 7) (v := .ref (am 7)) (C := RX7) (T := TX7) (N := 29) hx hb hts in_X7 hown hK hP 0 rfl rfl 21 (Nat.le_of_ble_eq_true rfl) (hts _ q960) (fun _ h9 => h9) rfl dX7_isAsSeen_91 ?_
                    refine lv_iconst (v := (2 : Int32)) hx hb dX7_isAsSeen_94 (by decide) ?_
                    refine lv_iload hx hb dX7_isAsSeen_95 (lv_at hl 3 rfl) ?_
                    refine lv_imul hx hb dX7_isAsSeen_97 ?_
                    refine lv_iconst (v := (1 : Int32)) hx hb dX7_isAsSeen_98 (by decide) ?_
                    refine lv_iadd hx hb dX7_isAsSeen_99 ?_
                    obtain ⟨hin, h⟩ := h
                    refine va_iald hx hb hK hP 2 1 rfl rfl hin dX7_isAsSeen_100 ?_
                    refine lv_icmp_ne (tgt := 108) hx hb dX7_isAsSeen_101 (by decide) (fun c_10 => ?_) (fun c_10 => ?_)
                    · have h := h.2 c_10
                      exact cut_108 f st lb x3 x4 x5 h _ _ hP hD hS _ (lv_sub hl [1, 2, 3, 4, 5] rfl)
                    · have h := h.1 c_10
                      exact cut_104 f st lb x3 x4 x5 h _ _ hP hD hS _ (lv_sub hl [1, 2, 3, 4, 5] rfl)
          refine lv_istore (lv' := [(5, .int (0 : Int32)), (4, .int s0), (2, .int x2), (3, .int x3), (0, .ref (am 0)), (1, .int p1)]) hx hb dX7_isAsSeen_60 hl (by decide) rfl (fun ls hl => ?_)
          obtain ⟨n_62, h⟩ := h
          exact cut_62 n_62 f st (upd lb (((21 : Int32) * p1) + x3).toNatClampNeg s0) x2 x3 s0 (0 : Int32) h _ _ hP hD hS _ (lv_sub hl [2, 3, 1, 0, 4, 5] rfl)
        refine lv_icmp_ne (tgt := 40) hx hb dX7_isAsSeen_32 (by decide) (fun c_11 => ?_) (fun c_11 => ?_)
        · have h := h.2 c_11
          refine lv_aload_n hx hb dX7_isAsSeen_40 rfl (lv_at hl 2 rfl) ?_
          refine va_get (D := D) (ci := 7) (v := .int (f_5 16)) (C := RX7) (T := TX7) (N := 29) hx hb hts in_X7 hown hK hP 2 rfl rfl 16 (Nat.le_of_ble_eq_true rfl) (hts _ q955) (fun _ h9 => h9) rfl dX7_isAsSeen_41 ?_
          exact cut_44 f_5 st_6 lb x2 x3 (f_5 16) h _ _ (hP.sub [2, 3, 0, 1] rfl) (hD.sub [2, 3, 0, 1] (by decide) rfl) hS _ (lv_sub hl [0, 1, 2, 3] rfl)
        · have h := h.1 c_11
          refine lv_bipush (v := (9 : Int32)) hx hb dX7_isAsSeen_35 (by decide) ?_
          refine lv_goto (tgt := 44) hx hb dX7_isAsSeen_37 (by decide) ?_
          exact cut_44 f_5 st_6 lb x2 x3 (9 : Int32) h _ _ (hP.sub [2, 3, 0, 1] rfl) (hD.sub [2, 3, 0, 1] (by decide) rfl) hS _ (lv_sub hl [0, 1, 2, 3] rfl)
  refine lv_istore_n (lv' := [(3, .int (0 : Int32)), (2, .int (1 : Int32)), (0, .ref (am 0)), (1, .int p1)]) hx hb dX7_isAsSeen_11 rfl hl (by decide) rfl (fun ls hl => ?_)
  obtain ⟨n_12, h⟩ := h
  exact cut_12 n_12 f st_2 lb (1 : Int32) (0 : Int32) h _ _ (hP.sub [2, 3, 0, 1] rfl) (hD.sub [2, 3, 0, 1] (by decide) rfl) hS _ (lv_sub hl [1, 0, 2, 3] rfl)
def wpX7_numbersAt_46 (sn : Nat → Int32) (p1 : Int32) (p2 : Int32) (Q : Int32 → (Nat → Int32) → (Nat → Int32) → (Nat → Int32) → Prop) (k13 : (Nat → Int32) → (Nat → Int32) → (Nat → Int32) → Int32 → Int32 → Int32 → Prop) (f : Nat → Int32) (st : Nat → Int32) (lb : Nat → Int32) (x3 : Int32) (x5 : Int32) (s1 : Int32) (s0 : Int32) : Prop :=
  k13 f st lb x3 (s0 ||| s1) (x5 + 1)
def wbX7_numbersAt_13 (sn : Nat → Int32) (p1 : Int32) (p2 : Int32) (Q : Int32 → (Nat → Int32) → (Nat → Int32) → (Nat → Int32) → Prop) (k13 : (Nat → Int32) → (Nat → Int32) → (Nat → Int32) → Int32 → Int32 → Int32 → Prop) (f : Nat → Int32) (st : Nat → Int32) (lb : Nat → Int32) (x3 : Int32) (x4 : Int32) (x5 : Int32) : Prop :=
  ((p2 < x5 → (vp_in p1 252 ∧ Q x4 f (upd st p1.toNatClampNeg x3) lb)) ∧ (¬ p2 < x5 → (vp_in p1 252 ∧ (wpX7_isAsSeen f (upd st p1.toNatClampNeg x5) sn lb x5 (fun r_2 f_3 st_4 lb_5 => ((r_2 = 0 → wpX7_numbersAt_46 sn p1 p2 Q k13 f_3 st_4 lb_5 x3 x5 (0 : Int32) x4) ∧ (¬ r_2 = 0 → wpX7_numbersAt_46 sn p1 p2 Q k13 f_3 st_4 lb_5 x3 x5 ((1 : Int32) <<< (x5 &&& 31)) x4)))))))
def wpX7_numbersAt_13 (sn : Nat → Int32) (p1 : Int32) (p2 : Int32) (Q : Int32 → (Nat → Int32) → (Nat → Int32) → (Nat → Int32) → Prop) (n : Nat) : (Nat → Int32) → (Nat → Int32) → (Nat → Int32) → Int32 → Int32 → Int32 → Prop :=
  Nat.rec (motive := fun _ => (Nat → Int32) → (Nat → Int32) → (Nat → Int32) → Int32 → Int32 → Int32 → Prop) (fun _ _ _ _ _ _ => False) (fun _ k => wbX7_numbersAt_13 sn p1 p2 Q  k) n
def wpX7_numbersAt (f : Nat → Int32) (st : Nat → Int32) (sn : Nat → Int32) (lb : Nat → Int32) (p1 : Int32) (p2 : Int32) (Q : Int32 → (Nat → Int32) → (Nat → Int32) → (Nat → Int32) → Prop) : Prop :=
  (vp_in p1 252 ∧ (∃ n : Nat, wpX7_numbersAt_13 sn p1 p2 Q  n f st lb (st p1.toNatClampNeg) (0 : Int32) (0 : Int32)))
set_option maxHeartbeats 4000000 in
theorem metX7_numbersAt (l : Launch) (D : va_G) (kk : Nat → ClassId) (am : Nat → Nat) (sz : Nat) (f : Nat → Int32) (st : Nat → Int32) (sn : Nat → Int32) (lb : Nat → Int32) (p1 : Int32) (p2 : Int32) (Q : Int32 → (Nat → Int32) → (Nat → Int32) → (Nat → Int32) → Prop) (h : wpX7_numbersAt f st sn lb p1 p2 Q) : Met l yX7_numbersAt (ws_ yX7_numbersAt cX7_numbersAt 6 (some .int)) { frames := 5, cells := 0, slots := 0, locals := 124 } (va_Pc ([.ref (am 0), .int p1, .int p2] : List Value) (zPc D kk [zM am f, zA (kk 1) (am 1) 252 st, zA (kk 1) (am 7) 12 sn, zA (kk 1) (am 8) 441 lb] sz)) (va_Qi (fun (r : Int32) (u : (Nat → Int32) × (Nat → Int32) × (Nat → Int32)) => Q r u.1 u.2.1 u.2.2) (zB D (va_A [zM am f, zA (kk 1) (am 1) 252 st, zA (kk 1) (am 7) 12 sn, zA (kk 1) (am 8) 441 lb] sz) (fun u : (Nat → Int32) × (Nat → Int32) × (Nat → Int32) => [zM am u.1, zA (kk 1) (am 1) 252 u.2.1, zA (kk 1) (am 7) 12 sn, zA (kk 1) (am 8) 441 u.2.2])) (va_A [zM am f, zA (kk 1) (am 1) 252 st, zA (kk 1) (am 7) 12 sn, zA (kk 1) (am 8) 441 lb] sz)) 0 0 (va_A [zM am f, zA (kk 1) (am 1) 252 st, zA (kk 1) (am 7) 12 sn, zA (kk 1) (am 8) 441 lb] sz) := by
  refine zMet (Qc := fun A => va_Qi (fun (r : Int32) (u : (Nat → Int32) × (Nat → Int32) × (Nat → Int32)) => Q r u.1 u.2.1 u.2.2) (zB D A (fun u : (Nat → Int32) × (Nat → Int32) × (Nat → Int32) => [zM am u.1, zA (kk 1) (am 1) 252 u.2.1, zA (kk 1) (am 7) 12 sn, zA (kk 1) (am 8) 441 u.2.2])) A) (by decide) (Nat.le_of_ble_eq_true rfl) ?_
  intro p e s m below meth c A X hP hD hS ls hl
  obtain ⟨hx, hb, hr, hml, hown, hts, hlk, hnm, hK, hN, hA⟩ := X
  have hown : s.vm.findClass "LoseLeagueModel" = some m.cls := hown
  have hl : lv_has ls 6 [(0, .ref (am 0)), (1, .int p1), (2, .int p2)] := hl
  unfold wpX7_numbersAt at h
  refine lv_aload_n hx hb dX7_numbersAt_0 rfl (lv_at hl 0 rfl) ?_
  refine va_get (D := D) (ci := 7) (v := .ref (am 1)) (C := RX7) (T := TX7) (N := 29) hx hb hts in_X7 hown hK hP 0 rfl rfl 0 (Nat.le_of_ble_eq_true rfl) (hts _ q939) (fun _ h9 => h9) rfl dX7_numbersAt_1 ?_
  refine lv_iload_n hx hb dX7_numbersAt_4 rfl (lv_at hl 1 rfl) ?_
  obtain ⟨hin, h⟩ := h
  refine va_iald hx hb hK hP 1 1 rfl rfl hin dX7_numbersAt_5 ?_
  refine lv_istore_n (lv' := [(3, .int (st p1.toNatClampNeg)), (0, .ref (am 0)), (1, .int p1), (2, .int p2)]) hx hb dX7_numbersAt_6 rfl hl (by decide) rfl (fun ls hl => ?_)
  refine lv_iconst (v := (0 : Int32)) hx hb dX7_numbersAt_7 (by decide) ?_
  refine lv_istore (lv' := [(4, .int (0 : Int32)), (3, .int (st p1.toNatClampNeg)), (0, .ref (am 0)), (1, .int p1), (2, .int p2)]) hx hb dX7_numbersAt_8 hl (by decide) rfl (fun ls hl => ?_)
  refine lv_iconst (v := (0 : Int32)) hx hb dX7_numbersAt_10 (by decide) ?_
  have cut_13 : ∀ (nl13 : Nat) (f : Nat → Int32) (st : Nat → Int32) (lb : Nat → Int32) (x3 : Int32) (x4 : Int32) (x5 : Int32), wpX7_numbersAt_13 sn p1 p2 Q  nl13 f st lb x3 x4 x5 → ∀ (H : Heap) (locs : List Loc), va_P D vwCl [zM am f, zA (kk 1) (am 1) 252 st, zA (kk 1) (am 7) 12 sn, zA (kk 1) (am 8) 441 lb] H → va_D A [zM am f, zA (kk 1) (am 1) 252 st, zA (kk 1) (am 7) 12 sn, zA (kk 1) (am 8) 441 lb] → va_S A s.heap H locs → ∀ ls : Array Slot, lv_has ls 6 [(3, .int x3), (4, .int x4), (5, .int x5), (0, .ref (am 0)), (1, .int p1), (2, .int p2)] → W p l e { frames := 5, cells := 0, slots := 0, locals := 124 } s m ([.ref (am 0), .int p1, .int p2] : List Value).toArray below meth c H locs 0 0 (MQ below (va_Qi (fun (r : Int32) (u : (Nat → Int32) × (Nat → Int32) × (Nat → Int32)) => Q r u.1 u.2.1 u.2.2) (zB D A (fun u : (Nat → Int32) × (Nat → Int32) × (Nat → Int32) => [zM am u.1, zA (kk 1) (am 1) 252 u.2.1, zA (kk 1) (am 7) 12 sn, zA (kk 1) (am 8) 441 u.2.2])) A) ([.ref (am 0), .int p1, .int p2] : List Value).toArray s 0 0 A) (F0 m 13 ls []) := by
    intro nl13
    induction nl13 with
    | zero => intro f st lb x3 x4 x5 h; exact absurd h id
    | succ nl13 ih_13 =>
      intro f st lb x3 x4 x5 h H locs hP hD hS ls hl
      have h : wbX7_numbersAt_13 sn p1 p2 Q  (wpX7_numbersAt_13 sn p1 p2 Q  nl13) f st lb x3 x4 x5 := h
      unfold wbX7_numbersAt_13 at h
      refine lv_iload hx hb dX7_numbersAt_13 (lv_at hl 2 rfl) ?_
      refine lv_iload_n hx hb dX7_numbersAt_15 rfl (lv_at hl 5 rfl) ?_
      refine lv_icmp_gt (tgt := 55) hx hb dX7_numbersAt_16 (by decide) (fun c_1 => ?_) (fun c_1 => ?_)
      · have h := h.1 c_1
        refine lv_aload_n hx hb dX7_numbersAt_55 rfl (lv_at hl 3 rfl) ?_
        refine va_get (D := D) (ci := 7) (v := .ref (am 1)) (C := RX7) (T := TX7) (N := 29) hx hb hts in_X7 hown hK hP 0 rfl rfl 0 (Nat.le_of_ble_eq_true rfl) (hts _ q939) (fun _ h9 => h9) rfl dX7_numbersAt_56 ?_
        refine lv_iload_n hx hb dX7_numbersAt_59 rfl (lv_at hl 4 rfl) ?_
        refine lv_iload_n hx hb dX7_numbersAt_60 rfl (lv_at hl 0 rfl) ?_
        obtain ⟨hin, h⟩ := h
        refine va_iast hx hb hK hP hD hS 1 1 rfl rfl hin dX7_numbersAt_61 (fun H locs hP hD hS => ?_)
        have hP : va_P D vwCl [zM am f, zA (kk 1) (am 1) 252 (upd st p1.toNatClampNeg x3), zA (kk 1) (am 7) 12 sn, zA (kk 1) (am 8) 441 lb] H := hP
        have hD : va_D A [zM am f, zA (kk 1) (am 1) 252 (upd st p1.toNatClampNeg x3), zA (kk 1) (am 7) 12 sn, zA (kk 1) (am 8) 441 lb] := hD
        refine lv_iload hx hb dX7_numbersAt_62 (lv_at hl 1 rfl) ?_
        exact zr_i hx hb hr hlk rfl hP hD hS (f, (upd st p1.toNatClampNeg x3), lb) [0, 1, 2, 3] rfl (by decide) dX7_numbersAt_64 h
      · have h := h.2 c_1
        refine lv_aload_n hx hb dX7_numbersAt_19 rfl (lv_at hl 3 rfl) ?_
        refine va_get (D := D) (ci := 7) (v := .ref (am 1)) (C := RX7) (T := TX7) (N := 29) hx hb hts in_X7 hown hK hP 0 rfl rfl 0 (Nat.le_of_ble_eq_true rfl) (hts _ q939) (fun _ h9 => h9) rfl dX7_numbersAt_20 ?_
        refine lv_iload_n hx hb dX7_numbersAt_23 rfl (lv_at hl 4 rfl) ?_
        refine lv_iload hx hb dX7_numbersAt_24 (lv_at hl 2 rfl) ?_
        obtain ⟨hin, h⟩ := h
        refine va_iast hx hb hK hP hD hS 1 1 rfl rfl hin dX7_numbersAt_26 (fun H locs hP hD hS => ?_)
        have hP : va_P D vwCl [zM am f, zA (kk 1) (am 1) 252 (upd st p1.toNatClampNeg x5), zA (kk 1) (am 7) 12 sn, zA (kk 1) (am 8) 441 lb] H := hP
        have hD : va_D A [zM am f, zA (kk 1) (am 1) 252 (upd st p1.toNatClampNeg x5), zA (kk 1) (am 7) 12 sn, zA (kk 1) (am 8) 441 lb] := hD
        refine lv_iload hx hb dX7_numbersAt_27 (lv_at hl 1 rfl) ?_
        refine lv_aload_n hx hb dX7_numbersAt_29 rfl (lv_at hl 3 rfl) ?_
        refine lv_iload hx hb dX7_numbersAt_30 (lv_at hl 2 rfl) ?_
        have hrc := va_recv hK hP (ci := 7) (q0 := 0) rfl rfl
        refine zc_i (wc := [zM am f, zA (kk 1) (am 1) 252 (upd st p1.toNatClampNeg x5), zA (kk 1) (am 7) 12 sn, zA (kk 1) (am 8) 441 lb]) (wr := []) (w1 := (fun u : (Nat → Int32) × (Nat → Int32) × (Nat → Int32) => [zM am u.1, zA (kk 1) (am 1) 252 u.2.1, zA (kk 1) (am 7) 12 sn, zA (kk 1) (am 8) 441 u.2.2])) (rest := [.int x4]) [0, 1, 2, 3] [] rfl rfl (by decide) (by decide) (by decide) hA hP hD hS (fun hP hD => va_runV (As := [.int x5]) (rest := [.int x4]) ⟨hx, hb, hml, hown, hts⟩ (metX7_isAsSeen l D kk am _ f (upd st p1.toNatClampNeg x5) sn lb x5 _ h) (cwV 1 hts (lw_V q1274 q1276 qs62 q71 q1277) rfl rfl rfl pdX7_isAsSeen ⟨(Nat.le_of_ble_eq_true rfl), (Nat.le_of_ble_eq_true rfl)⟩) (zp_V hK hN hrc hP hD) rfl rfl hl.1 rfl (lv_room (Nat.le_of_ble_eq_true rfl)) dX7_numbersAt_32 ⟨(Nat.le_of_ble_eq_true rfl), (Nat.le_of_ble_eq_true rfl)⟩) (fun r_2 u H locs h hP hD hS => ?_)
        obtain ⟨f_3, st_4, lb_5⟩ := u
        try dsimp only at h
        have hP : va_P D vwCl [zM am f_3, zA (kk 1) (am 1) 252 st_4, zA (kk 1) (am 7) 12 sn, zA (kk 1) (am 8) 441 lb_5] H := hP
        have hD : va_D A [zM am f_3, zA (kk 1) (am 1) 252 st_4, zA (kk 1) (am 7) 12 sn, zA (kk 1) (am 8) 441 lb_5] := hD
        have cut_46 : ∀ (f : Nat → Int32) (st : Nat → Int32) (lb : Nat → Int32) (x3 : Int32) (x5 : Int32) (s1 : Int32) (s0 : Int32), wpX7_numbersAt_46 sn p1 p2 Q (wpX7_numbersAt_13 sn p1 p2 Q  nl13) f st lb x3 x5 s1 s0 → ∀ (H : Heap) (locs : List Loc), va_P D vwCl [zM am f, zA (kk 1) (am 1) 252 st, zA (kk 1) (am 7) 12 sn, zA (kk 1) (am 8) 441 lb] H → va_D A [zM am f, zA (kk 1) (am 1) 252 st, zA (kk 1) (am 7) 12 sn, zA (kk 1) (am 8) 441 lb] → va_S A s.heap H locs → ∀ ls : Array Slot, lv_has ls 6 [(3, .int x3), (5, .int x5), (0, .ref (am 0)), (1, .int p1), (2, .int p2)] → W p l e { frames := 5, cells := 0, slots := 0, locals := 124 } s m ([.ref (am 0), .int p1, .int p2] : List Value).toArray below meth c H locs 0 0 (MQ below (va_Qi (fun (r : Int32) (u : (Nat → Int32) × (Nat → Int32) × (Nat → Int32)) => Q r u.1 u.2.1 u.2.2) (zB D A (fun u : (Nat → Int32) × (Nat → Int32) × (Nat → Int32) => [zM am u.1, zA (kk 1) (am 1) 252 u.2.1, zA (kk 1) (am 7) 12 sn, zA (kk 1) (am 8) 441 u.2.2])) A) ([.ref (am 0), .int p1, .int p2] : List Value).toArray s 0 0 A) (F0 m 46 ls [.int s1, .int s0]) := by
          intro f st lb x3 x5 s1 s0 h H locs hP hD hS ls hl
          unfold wpX7_numbersAt_46 at h
          refine lv_ior hx hb dX7_numbersAt_46 ?_
          refine lv_istore (lv' := [(4, .int (s0 ||| s1)), (3, .int x3), (5, .int x5), (0, .ref (am 0)), (1, .int p1), (2, .int p2)]) hx hb dX7_numbersAt_47 hl (by decide) rfl (fun ls hl => ?_)
          refine lv_iinc (v := (x5 + 1)) (lv' := [(5, .int (x5 + 1)), (4, .int (s0 ||| s1)), (3, .int x3), (0, .ref (am 0)), (1, .int p1), (2, .int p2)]) hx hb dX7_numbersAt_49 hl (k := 2) rfl rfl (by decide) rfl (fun ls hl => ?_)
          refine lv_goto (tgt := 13) hx hb dX7_numbersAt_52 (by decide) ?_
          exact ih_13 f st lb x3 (s0 ||| s1) (x5 + 1) h _ _ hP hD hS _ (lv_sub hl [2, 1, 0, 3, 4, 5] rfl)
        refine lv_if_eq (tgt := 45) hx hb dX7_numbersAt_35 (by decide) (fun c_6 => ?_) (fun c_6 => ?_)
        · have h := h.1 c_6
          refine lv_iconst (v := (0 : Int32)) hx hb dX7_numbersAt_45 (by decide) ?_
          exact cut_46 f_3 st_4 lb_5 x3 x5 (0 : Int32) x4 h _ _ hP hD hS _ (lv_sub hl [0, 2, 3, 4, 5] rfl)
        · have h := h.2 c_6
          refine lv_iconst (v := (1 : Int32)) hx hb dX7_numbersAt_38 (by decide) ?_
          refine lv_iload hx hb dX7_numbersAt_39 (lv_at hl 2 rfl) ?_
          refine lv_ishl hx hb dX7_numbersAt_41 ?_
          refine lv_goto (tgt := 46) hx hb dX7_numbersAt_42 (by decide) ?_
          exact cut_46 f_3 st_4 lb_5 x3 x5 ((1 : Int32) <<< (x5 &&& 31)) x4 h _ _ hP hD hS _ (lv_sub hl [0, 2, 3, 4, 5] rfl)
  refine lv_istore (lv' := [(5, .int (0 : Int32)), (4, .int (0 : Int32)), (3, .int (st p1.toNatClampNeg)), (0, .ref (am 0)), (1, .int p1), (2, .int p2)]) hx hb dX7_numbersAt_11 hl (by decide) rfl (fun ls hl => ?_)
  obtain ⟨n_13, h⟩ := h
  exact cut_13 n_13 f st lb (st p1.toNatClampNeg) (0 : Int32) (0 : Int32) h _ _ hP hD hS _ (lv_sub hl [2, 1, 0, 3, 4, 5] rfl)
def wpX7_kinds (f : Nat → Int32) (st : Nat → Int32) (sn : Nat → Int32) (lb : Nat → Int32) (p1 : Int32) (Q : Int32 → (Nat → Int32) → (Nat → Int32) → (Nat → Int32) → Prop) : Prop :=
  (wpX7_isTown f p1 (fun r_1 => ((r_1 = 0 → Q (-1 : Int32) f st lb) ∧ (¬ r_1 = 0 → (wpX7_numbersAt f st sn lb p1 (3 : Int32) (fun r_3 f_4 st_5 lb_6 => Q r_3 f_4 st_5 lb_6))))))
set_option maxHeartbeats 4000000 in
theorem metX7_kinds (l : Launch) (D : va_G) (kk : Nat → ClassId) (am : Nat → Nat) (sz : Nat) (f : Nat → Int32) (st : Nat → Int32) (sn : Nat → Int32) (lb : Nat → Int32) (p1 : Int32) (Q : Int32 → (Nat → Int32) → (Nat → Int32) → (Nat → Int32) → Prop) (h : wpX7_kinds f st sn lb p1 Q) : Met l yX7_kinds (ws_ yX7_kinds cX7_kinds 2 (some .int)) { frames := 6, cells := 0, slots := 0, locals := 149 } (va_Pc ([.ref (am 0), .int p1] : List Value) (zPc D kk [zM am f, zA (kk 1) (am 1) 252 st, zA (kk 1) (am 7) 12 sn, zA (kk 1) (am 8) 441 lb] sz)) (va_Qi (fun (r : Int32) (u : (Nat → Int32) × (Nat → Int32) × (Nat → Int32)) => Q r u.1 u.2.1 u.2.2) (zB D (va_A [zM am f, zA (kk 1) (am 1) 252 st, zA (kk 1) (am 7) 12 sn, zA (kk 1) (am 8) 441 lb] sz) (fun u : (Nat → Int32) × (Nat → Int32) × (Nat → Int32) => [zM am u.1, zA (kk 1) (am 1) 252 u.2.1, zA (kk 1) (am 7) 12 sn, zA (kk 1) (am 8) 441 u.2.2])) (va_A [zM am f, zA (kk 1) (am 1) 252 st, zA (kk 1) (am 7) 12 sn, zA (kk 1) (am 8) 441 lb] sz)) 0 0 (va_A [zM am f, zA (kk 1) (am 1) 252 st, zA (kk 1) (am 7) 12 sn, zA (kk 1) (am 8) 441 lb] sz) := by
  refine zMet (Qc := fun A => va_Qi (fun (r : Int32) (u : (Nat → Int32) × (Nat → Int32) × (Nat → Int32)) => Q r u.1 u.2.1 u.2.2) (zB D A (fun u : (Nat → Int32) × (Nat → Int32) × (Nat → Int32) => [zM am u.1, zA (kk 1) (am 1) 252 u.2.1, zA (kk 1) (am 7) 12 sn, zA (kk 1) (am 8) 441 u.2.2])) A) (by decide) (Nat.le_of_ble_eq_true rfl) ?_
  intro p e s m below meth c A X hP hD hS ls hl
  obtain ⟨hx, hb, hr, hml, hown, hts, hlk, hnm, hK, hN, hA⟩ := X
  have hown : s.vm.findClass "LoseLeagueModel" = some m.cls := hown
  have hl : lv_has ls 2 [(0, .ref (am 0)), (1, .int p1)] := hl
  unfold wpX7_kinds at h
  refine lv_aload_n hx hb dX7_kinds_0 rfl (lv_at hl 0 rfl) ?_
  refine lv_iload_n hx hb dX7_kinds_1 rfl (lv_at hl 1 rfl) ?_
  have hrc := va_recv hK hP (ci := 7) (q0 := 0) rfl rfl
  refine zc_i (wc := [zM am f]) (wr := [zA (kk 1) (am 1) 252 st, zA (kk 1) (am 7) 12 sn, zA (kk 1) (am 8) 441 lb]) (w1 := (fun u : Unit => [zM am f])) (rest := []) [0] [1, 2, 3] rfl rfl (by decide) (by decide) (by decide) hA hP hD hS (fun hP hD => va_runV (As := [.int p1]) (rest := []) ⟨hx, hb, hml, hown, hts⟩ (metX7_isTown l D kk am _ f p1 _ h) (cwV 1 hts (lw_V q1105 q1107 qs45 q71 q1108) rfl rfl rfl pdX7_isTown ⟨(Nat.le_of_ble_eq_true rfl), (Nat.le_of_ble_eq_true rfl)⟩) (zp_V hK hN hrc hP hD) rfl rfl hl.1 rfl (lv_room (Nat.le_of_ble_eq_true rfl)) dX7_kinds_2 ⟨(Nat.le_of_ble_eq_true rfl), (Nat.le_of_ble_eq_true rfl)⟩) (fun r_1 u H locs h hP hD hS => ?_)
  try dsimp only at h
  have hP : va_P D vwCl [zA (kk 1) (am 1) 252 st, zA (kk 1) (am 7) 12 sn, zA (kk 1) (am 8) 441 lb, zM am f] H := hP
  have hD : va_D A [zA (kk 1) (am 1) 252 st, zA (kk 1) (am 7) 12 sn, zA (kk 1) (am 8) 441 lb, zM am f] := hD
  refine lv_if_eq (tgt := 17) hx hb dX7_kinds_5 (by decide) (fun c_2 => ?_) (fun c_2 => ?_)
  · have h := h.1 c_2
    refine lv_iconst (v := (-1 : Int32)) hx hb dX7_kinds_17 (by decide) ?_
    exact zr_i hx hb hr hlk rfl hP hD hS (f, st, lb) [3, 0, 1, 2] rfl (by decide) dX7_kinds_18 h
  · have h := h.2 c_2
    refine lv_aload_n hx hb dX7_kinds_8 rfl (lv_at hl 0 rfl) ?_
    refine lv_iload_n hx hb dX7_kinds_9 rfl (lv_at hl 1 rfl) ?_
    refine lv_iconst (v := (3 : Int32)) hx hb dX7_kinds_10 (by decide) ?_
    have hrc := va_recv hK hP (ci := 7) (q0 := 3) rfl rfl
    refine zc_i (wc := [zM am f, zA (kk 1) (am 1) 252 st, zA (kk 1) (am 7) 12 sn, zA (kk 1) (am 8) 441 lb]) (wr := []) (w1 := (fun u : (Nat → Int32) × (Nat → Int32) × (Nat → Int32) => [zM am u.1, zA (kk 1) (am 1) 252 u.2.1, zA (kk 1) (am 7) 12 sn, zA (kk 1) (am 8) 441 u.2.2])) (rest := []) [3, 0, 1, 2] [] rfl rfl (by decide) (by decide) (by decide) hA hP hD hS (fun hP hD => va_runV (As := [.int p1, .int (3 : Int32)]) (rest := []) ⟨hx, hb, hml, hown, hts⟩ (metX7_numbersAt l D kk am _ f st sn lb p1 (3 : Int32) _ h) (cwV 2 hts (lw_V q1270 q1272 qs61 q71 q1273) rfl rfl rfl pdX7_numbersAt ⟨(Nat.le_of_ble_eq_true rfl), (Nat.le_of_ble_eq_true rfl)⟩) (zp_V hK hN hrc hP hD) rfl rfl hl.1 rfl (lv_room (Nat.le_of_ble_eq_true rfl)) dX7_kinds_11 ⟨(Nat.le_of_ble_eq_true rfl), (Nat.le_of_ble_eq_true rfl)⟩) (fun r_3 u H locs h hP hD hS => ?_)
    obtain ⟨f_4, st_5, lb_6⟩ := u
    try dsimp only at h
    have hP : va_P D vwCl [zM am f_4, zA (kk 1) (am 1) 252 st_5, zA (kk 1) (am 7) 12 sn, zA (kk 1) (am 8) 441 lb_6] H := hP
    have hD : va_D A [zM am f_4, zA (kk 1) (am 1) 252 st_5, zA (kk 1) (am 7) 12 sn, zA (kk 1) (am 8) 441 lb_6] := hD
    refine lv_goto (tgt := 18) hx hb dX7_kinds_14 (by decide) ?_
    exact zr_i hx hb hr hlk rfl hP hD hS (f_4, st_5, lb_6) [0, 1, 2, 3] rfl (by decide) dX7_kinds_18 h
def wpX7_strengths (f : Nat → Int32) (st : Nat → Int32) (sn : Nat → Int32) (lb : Nat → Int32) (p1 : Int32) (Q : Int32 → (Nat → Int32) → (Nat → Int32) → (Nat → Int32) → Prop) : Prop :=
  (wpX7_isTown f p1 (fun r_1 => ((r_1 = 0 → Q (-1 : Int32) f st lb) ∧ (¬ r_1 = 0 → (wpX7_numbersAt f st sn lb ((5 : Int32) + p1) (20 : Int32) (fun r_3 f_4 st_5 lb_6 => Q r_3 f_4 st_5 lb_6))))))
set_option maxHeartbeats 4000000 in
theorem metX7_strengths (l : Launch) (D : va_G) (kk : Nat → ClassId) (am : Nat → Nat) (sz : Nat) (f : Nat → Int32) (st : Nat → Int32) (sn : Nat → Int32) (lb : Nat → Int32) (p1 : Int32) (Q : Int32 → (Nat → Int32) → (Nat → Int32) → (Nat → Int32) → Prop) (h : wpX7_strengths f st sn lb p1 Q) : Met l yX7_strengths (ws_ yX7_strengths cX7_strengths 2 (some .int)) { frames := 6, cells := 0, slots := 0, locals := 149 } (va_Pc ([.ref (am 0), .int p1] : List Value) (zPc D kk [zM am f, zA (kk 1) (am 1) 252 st, zA (kk 1) (am 7) 12 sn, zA (kk 1) (am 8) 441 lb] sz)) (va_Qi (fun (r : Int32) (u : (Nat → Int32) × (Nat → Int32) × (Nat → Int32)) => Q r u.1 u.2.1 u.2.2) (zB D (va_A [zM am f, zA (kk 1) (am 1) 252 st, zA (kk 1) (am 7) 12 sn, zA (kk 1) (am 8) 441 lb] sz) (fun u : (Nat → Int32) × (Nat → Int32) × (Nat → Int32) => [zM am u.1, zA (kk 1) (am 1) 252 u.2.1, zA (kk 1) (am 7) 12 sn, zA (kk 1) (am 8) 441 u.2.2])) (va_A [zM am f, zA (kk 1) (am 1) 252 st, zA (kk 1) (am 7) 12 sn, zA (kk 1) (am 8) 441 lb] sz)) 0 0 (va_A [zM am f, zA (kk 1) (am 1) 252 st, zA (kk 1) (am 7) 12 sn, zA (kk 1) (am 8) 441 lb] sz) := by
  refine zMet (Qc := fun A => va_Qi (fun (r : Int32) (u : (Nat → Int32) × (Nat → Int32) × (Nat → Int32)) => Q r u.1 u.2.1 u.2.2) (zB D A (fun u : (Nat → Int32) × (Nat → Int32) × (Nat → Int32) => [zM am u.1, zA (kk 1) (am 1) 252 u.2.1, zA (kk 1) (am 7) 12 sn, zA (kk 1) (am 8) 441 u.2.2])) A) (by decide) (Nat.le_of_ble_eq_true rfl) ?_
  intro p e s m below meth c A X hP hD hS ls hl
  obtain ⟨hx, hb, hr, hml, hown, hts, hlk, hnm, hK, hN, hA⟩ := X
  have hown : s.vm.findClass "LoseLeagueModel" = some m.cls := hown
  have hl : lv_has ls 2 [(0, .ref (am 0)), (1, .int p1)] := hl
  unfold wpX7_strengths at h
  refine lv_aload_n hx hb dX7_strengths_0 rfl (lv_at hl 0 rfl) ?_
  refine lv_iload_n hx hb dX7_strengths_1 rfl (lv_at hl 1 rfl) ?_
  have hrc := va_recv hK hP (ci := 7) (q0 := 0) rfl rfl
  refine zc_i (wc := [zM am f]) (wr := [zA (kk 1) (am 1) 252 st, zA (kk 1) (am 7) 12 sn, zA (kk 1) (am 8) 441 lb]) (w1 := (fun u : Unit => [zM am f])) (rest := []) [0] [1, 2, 3] rfl rfl (by decide) (by decide) (by decide) hA hP hD hS (fun hP hD => va_runV (As := [.int p1]) (rest := []) ⟨hx, hb, hml, hown, hts⟩ (metX7_isTown l D kk am _ f p1 _ h) (cwV 1 hts (lw_V q1105 q1107 qs45 q71 q1108) rfl rfl rfl pdX7_isTown ⟨(Nat.le_of_ble_eq_true rfl), (Nat.le_of_ble_eq_true rfl)⟩) (zp_V hK hN hrc hP hD) rfl rfl hl.1 rfl (lv_room (Nat.le_of_ble_eq_true rfl)) dX7_strengths_2 ⟨(Nat.le_of_ble_eq_true rfl), (Nat.le_of_ble_eq_true rfl)⟩) (fun r_1 u H locs h hP hD hS => ?_)
  try dsimp only at h
  have hP : va_P D vwCl [zA (kk 1) (am 1) 252 st, zA (kk 1) (am 7) 12 sn, zA (kk 1) (am 8) 441 lb, zM am f] H := hP
  have hD : va_D A [zA (kk 1) (am 1) 252 st, zA (kk 1) (am 7) 12 sn, zA (kk 1) (am 8) 441 lb, zM am f] := hD
  refine lv_if_eq (tgt := 20) hx hb dX7_strengths_5 (by decide) (fun c_2 => ?_) (fun c_2 => ?_)
  · have h := h.1 c_2
    refine lv_iconst (v := (-1 : Int32)) hx hb dX7_strengths_20 (by decide) ?_
    exact zr_i hx hb hr hlk rfl hP hD hS (f, st, lb) [3, 0, 1, 2] rfl (by decide) dX7_strengths_21 h
  · have h := h.2 c_2
    refine lv_aload_n hx hb dX7_strengths_8 rfl (lv_at hl 0 rfl) ?_
    refine lv_iconst (v := (5 : Int32)) hx hb dX7_strengths_9 (by decide) ?_
    refine lv_iload_n hx hb dX7_strengths_10 rfl (lv_at hl 1 rfl) ?_
    refine lv_iadd hx hb dX7_strengths_11 ?_
    refine lv_bipush (v := (20 : Int32)) hx hb dX7_strengths_12 (by decide) ?_
    have hrc := va_recv hK hP (ci := 7) (q0 := 3) rfl rfl
    refine zc_i (wc := [zM am f, zA (kk 1) (am 1) 252 st, zA (kk 1) (am 7) 12 sn, zA (kk 1) (am 8) 441 lb]) (wr := []) (w1 := (fun u : (Nat → Int32) × (Nat → Int32) × (Nat → Int32) => [zM am u.1, zA (kk 1) (am 1) 252 u.2.1, zA (kk 1) (am 7) 12 sn, zA (kk 1) (am 8) 441 u.2.2])) (rest := []) [3, 0, 1, 2] [] rfl rfl (by decide) (by decide) (by decide) hA hP hD hS (fun hP hD => va_runV (As := [.int ((5 : Int32) + p1), .int (20 : Int32)]) (rest := []) ⟨hx, hb, hml, hown, hts⟩ (metX7_numbersAt l D kk am _ f st sn lb ((5 : Int32) + p1) (20 : Int32) _ h) (cwV 2 hts (lw_V q1270 q1272 qs61 q71 q1273) rfl rfl rfl pdX7_numbersAt ⟨(Nat.le_of_ble_eq_true rfl), (Nat.le_of_ble_eq_true rfl)⟩) (zp_V hK hN hrc hP hD) rfl rfl hl.1 rfl (lv_room (Nat.le_of_ble_eq_true rfl)) dX7_strengths_14 ⟨(Nat.le_of_ble_eq_true rfl), (Nat.le_of_ble_eq_true rfl)⟩) (fun r_3 u H locs h hP hD hS => ?_)
    obtain ⟨f_4, st_5, lb_6⟩ := u
    try dsimp only at h
    have hP : va_P D vwCl [zM am f_4, zA (kk 1) (am 1) 252 st_5, zA (kk 1) (am 7) 12 sn, zA (kk 1) (am 8) 441 lb_6] H := hP
    have hD : va_D A [zM am f_4, zA (kk 1) (am 1) 252 st_5, zA (kk 1) (am 7) 12 sn, zA (kk 1) (am 8) 441 lb_6] := hD
    refine lv_goto (tgt := 21) hx hb dX7_strengths_17 (by decide) ?_
    exact zr_i hx hb hr hlk rfl hP hD hS (f_4, st_5, lb_6) [0, 1, 2, 3] rfl (by decide) dX7_strengths_21 h
def wpX7_ask_215 (sn : Nat → Int32) (p1 : Int32) (p2 : Int32) (Q : Int32 → (Nat → Int32) → (Nat → Int32) → (Nat → Int32) → Prop) (k36 : (Nat → Int32) → (Nat → Int32) → (Nat → Int32) → Int32 → Int32 → Int32 → Prop) (k67 : (Nat → Int32) → (Nat → Int32) → (Nat → Int32) → Int32 → Int32 → Int32 → Int32 → Prop) (f : Nat → Int32) (st : Nat → Int32) (lb : Nat → Int32) (x5 : Int32) : Prop :=
  Q x5 f st lb
def wpX7_ask_196 (sn : Nat → Int32) (p1 : Int32) (p2 : Int32) (Q : Int32 → (Nat → Int32) → (Nat → Int32) → (Nat → Int32) → Prop) (k36 : (Nat → Int32) → (Nat → Int32) → (Nat → Int32) → Int32 → Int32 → Int32 → Prop) (k67 : (Nat → Int32) → (Nat → Int32) → (Nat → Int32) → Int32 → Int32 → Int32 → Int32 → Prop) (k80 : (Nat → Int32) → (Nat → Int32) → (Nat → Int32) → Int32 → Int32 → Int32 → Int32 → Int32 → Int32 → Prop) (f : Nat → Int32) (st : Nat → Int32) (lb : Nat → Int32) (x3 : Int32) (x5 : Int32) (x6 : Int32) (s0 : Int32) : Prop :=
  k67 f st lb x3 s0 x5 (x6 + 1)
def wpX7_ask_180 (sn : Nat → Int32) (p1 : Int32) (p2 : Int32) (Q : Int32 → (Nat → Int32) → (Nat → Int32) → (Nat → Int32) → Prop) (k36 : (Nat → Int32) → (Nat → Int32) → (Nat → Int32) → Int32 → Int32 → Int32 → Prop) (k67 : (Nat → Int32) → (Nat → Int32) → (Nat → Int32) → Int32 → Int32 → Int32 → Int32 → Prop) (k80 : (Nat → Int32) → (Nat → Int32) → (Nat → Int32) → Int32 → Int32 → Int32 → Int32 → Int32 → Int32 → Prop) (f : Nat → Int32) (st : Nat → Int32) (lb : Nat → Int32) (x3 : Int32) (x4 : Int32) (x6 : Int32) (x7 : Int32) (s0 : Int32) : Prop :=
  ((x4 ≤ x7 → wpX7_ask_196 sn p1 p2 Q k36 k67 k80 f st lb x3 s0 x6 x4) ∧ (¬ x4 ≤ x7 → wpX7_ask_196 sn p1 p2 Q k36 k67 k80 f st lb x3 s0 x6 x7))
def wpX7_ask_158 (sn : Nat → Int32) (p1 : Int32) (p2 : Int32) (Q : Int32 → (Nat → Int32) → (Nat → Int32) → (Nat → Int32) → Prop) (k36 : (Nat → Int32) → (Nat → Int32) → (Nat → Int32) → Int32 → Int32 → Int32 → Prop) (k67 : (Nat → Int32) → (Nat → Int32) → (Nat → Int32) → Int32 → Int32 → Int32 → Int32 → Prop) (k80 : (Nat → Int32) → (Nat → Int32) → (Nat → Int32) → Int32 → Int32 → Int32 → Int32 → Int32 → Int32 → Prop) (k93 : (Nat → Int32) → (Nat → Int32) → (Nat → Int32) → Int32 → Int32 → Int32 → Int32 → Int32 → Int32 → Int32 → Int32 → Prop) (f : Nat → Int32) (st : Nat → Int32) (lb : Nat → Int32) (x3 : Int32) (x4 : Int32) (x5 : Int32) (x6 : Int32) (x8 : Int32) (s0 : Int32) : Prop :=
  k80 f st lb x3 x4 x5 x6 s0 (x8 + 1)
def wpX7_ask_135 (sn : Nat → Int32) (p1 : Int32) (p2 : Int32) (Q : Int32 → (Nat → Int32) → (Nat → Int32) → (Nat → Int32) → Prop) (k36 : (Nat → Int32) → (Nat → Int32) → (Nat → Int32) → Int32 → Int32 → Int32 → Prop) (k67 : (Nat → Int32) → (Nat → Int32) → (Nat → Int32) → Int32 → Int32 → Int32 → Int32 → Prop) (k80 : (Nat → Int32) → (Nat → Int32) → (Nat → Int32) → Int32 → Int32 → Int32 → Int32 → Int32 → Int32 → Prop) (k93 : (Nat → Int32) → (Nat → Int32) → (Nat → Int32) → Int32 → Int32 → Int32 → Int32 → Int32 → Int32 → Int32 → Int32 → Prop) (f : Nat → Int32) (st : Nat → Int32) (lb : Nat → Int32) (x3 : Int32) (x4 : Int32) (x5 : Int32) (x6 : Int32) (x7 : Int32) (x8 : Int32) (x10 : Int32) (s1 : Int32) (s0 : Int32) : Prop :=
  k93 f st lb x3 x4 x5 x6 x7 x8 (s0 + s1) (x10 + 1)
def wpX7_ask_134 (sn : Nat → Int32) (p1 : Int32) (p2 : Int32) (Q : Int32 → (Nat → Int32) → (Nat → Int32) → (Nat → Int32) → Prop) (k36 : (Nat → Int32) → (Nat → Int32) → (Nat → Int32) → Int32 → Int32 → Int32 → Prop) (k67 : (Nat → Int32) → (Nat → Int32) → (Nat → Int32) → Int32 → Int32 → Int32 → Int32 → Prop) (k80 : (Nat → Int32) → (Nat → Int32) → (Nat → Int32) → Int32 → Int32 → Int32 → Int32 → Int32 → Int32 → Prop) (k93 : (Nat → Int32) → (Nat → Int32) → (Nat → Int32) → Int32 → Int32 → Int32 → Int32 → Int32 → Int32 → Int32 → Int32 → Prop) (f : Nat → Int32) (st : Nat → Int32) (lb : Nat → Int32) (x3 : Int32) (x4 : Int32) (x5 : Int32) (x6 : Int32) (x7 : Int32) (x8 : Int32) (x10 : Int32) (s0 : Int32) : Prop :=
  wpX7_ask_135 sn p1 p2 Q k36 k67 k80 k93 f st lb x3 x4 x5 x6 x7 x8 x10 (0 : Int32) s0
def wbX7_ask_93 (sn : Nat → Int32) (p1 : Int32) (p2 : Int32) (Q : Int32 → (Nat → Int32) → (Nat → Int32) → (Nat → Int32) → Prop) (k36 : (Nat → Int32) → (Nat → Int32) → (Nat → Int32) → Int32 → Int32 → Int32 → Prop) (k67 : (Nat → Int32) → (Nat → Int32) → (Nat → Int32) → Int32 → Int32 → Int32 → Int32 → Prop) (k80 : (Nat → Int32) → (Nat → Int32) → (Nat → Int32) → Int32 → Int32 → Int32 → Int32 → Int32 → Int32 → Prop) (k93 : (Nat → Int32) → (Nat → Int32) → (Nat → Int32) → Int32 → Int32 → Int32 → Int32 → Int32 → Int32 → Int32 → Int32 → Prop) (f : Nat → Int32) (st : Nat → Int32) (lb : Nat → Int32) (x3 : Int32) (x4 : Int32) (x5 : Int32) (x6 : Int32) (x7 : Int32) (x8 : Int32) (x9 : Int32) (x10 : Int32) : Prop :=
  (((20 : Int32) < x10 → ((x9 ≤ x7 → wpX7_ask_158 sn p1 p2 Q k36 k67 k80 k93 f st lb x3 x4 x5 x6 x8 x7) ∧ (¬ x9 ≤ x7 → wpX7_ask_158 sn p1 p2 Q k36 k67 k80 k93 f st lb x3 x4 x5 x6 x8 x9))) ∧ (¬ (20 : Int32) < x10 → ((((x3 >>> (x10 &&& 31)) &&& (1 : Int32)) = (1 : Int32) → (vp_in (((21 : Int32) * x10) + x6) 441 ∧ (((lb (((21 : Int32) * x10) + x6).toNatClampNeg) = x8 → wpX7_ask_135 sn p1 p2 Q k36 k67 k80 k93 f st lb x3 x4 x5 x6 x7 x8 x10 (1 : Int32) x9) ∧ (¬ (lb (((21 : Int32) * x10) + x6).toNatClampNeg) = x8 → wpX7_ask_134 sn p1 p2 Q k36 k67 k80 k93 f st lb x3 x4 x5 x6 x7 x8 x10 x9)))) ∧ (¬ ((x3 >>> (x10 &&& 31)) &&& (1 : Int32)) = (1 : Int32) → wpX7_ask_134 sn p1 p2 Q k36 k67 k80 k93 f st lb x3 x4 x5 x6 x7 x8 x10 x9))))
def wpX7_ask_93 (sn : Nat → Int32) (p1 : Int32) (p2 : Int32) (Q : Int32 → (Nat → Int32) → (Nat → Int32) → (Nat → Int32) → Prop) (k36 : (Nat → Int32) → (Nat → Int32) → (Nat → Int32) → Int32 → Int32 → Int32 → Prop) (k67 : (Nat → Int32) → (Nat → Int32) → (Nat → Int32) → Int32 → Int32 → Int32 → Int32 → Prop) (k80 : (Nat → Int32) → (Nat → Int32) → (Nat → Int32) → Int32 → Int32 → Int32 → Int32 → Int32 → Int32 → Prop) (n : Nat) : (Nat → Int32) → (Nat → Int32) → (Nat → Int32) → Int32 → Int32 → Int32 → Int32 → Int32 → Int32 → Int32 → Int32 → Prop :=
  Nat.rec (motive := fun _ => (Nat → Int32) → (Nat → Int32) → (Nat → Int32) → Int32 → Int32 → Int32 → Int32 → Int32 → Int32 → Int32 → Int32 → Prop) (fun _ _ _ _ _ _ _ _ _ _ _ => False) (fun _ k => wbX7_ask_93 sn p1 p2 Q k36 k67 k80 k) n
def wbX7_ask_80 (sn : Nat → Int32) (p1 : Int32) (p2 : Int32) (Q : Int32 → (Nat → Int32) → (Nat → Int32) → (Nat → Int32) → Prop) (k36 : (Nat → Int32) → (Nat → Int32) → (Nat → Int32) → Int32 → Int32 → Int32 → Prop) (k67 : (Nat → Int32) → (Nat → Int32) → (Nat → Int32) → Int32 → Int32 → Int32 → Int32 → Prop) (k80 : (Nat → Int32) → (Nat → Int32) → (Nat → Int32) → Int32 → Int32 → Int32 → Int32 → Int32 → Int32 → Prop) (f : Nat → Int32) (st : Nat → Int32) (lb : Nat → Int32) (x3 : Int32) (x4 : Int32) (x5 : Int32) (x6 : Int32) (x7 : Int32) (x8 : Int32) : Prop :=
  (((9 : Int32) < x8 → ((x4 ≤ x7 → wpX7_ask_180 sn p1 p2 Q k36 k67 k80 f st lb x3 x4 x6 x7 x5) ∧ (¬ x4 ≤ x7 → wpX7_ask_180 sn p1 p2 Q k36 k67 k80 f st lb x3 x4 x6 x7 x6))) ∧ (¬ (9 : Int32) < x8 → (∃ n : Nat, wpX7_ask_93 sn p1 p2 Q k36 k67 k80 n f st lb x3 x4 x5 x6 x7 x8 (0 : Int32) (0 : Int32))))
def wpX7_ask_80 (sn : Nat → Int32) (p1 : Int32) (p2 : Int32) (Q : Int32 → (Nat → Int32) → (Nat → Int32) → (Nat → Int32) → Prop) (k36 : (Nat → Int32) → (Nat → Int32) → (Nat → Int32) → Int32 → Int32 → Int32 → Prop) (k67 : (Nat → Int32) → (Nat → Int32) → (Nat → Int32) → Int32 → Int32 → Int32 → Int32 → Prop) (n : Nat) : (Nat → Int32) → (Nat → Int32) → (Nat → Int32) → Int32 → Int32 → Int32 → Int32 → Int32 → Int32 → Prop :=
  Nat.rec (motive := fun _ => (Nat → Int32) → (Nat → Int32) → (Nat → Int32) → Int32 → Int32 → Int32 → Int32 → Int32 → Int32 → Prop) (fun _ _ _ _ _ _ _ _ _ => False) (fun _ k => wbX7_ask_80 sn p1 p2 Q k36 k67 k) n
def wbX7_ask_67 (sn : Nat → Int32) (p1 : Int32) (p2 : Int32) (Q : Int32 → (Nat → Int32) → (Nat → Int32) → (Nat → Int32) → Prop) (k36 : (Nat → Int32) → (Nat → Int32) → (Nat → Int32) → Int32 → Int32 → Int32 → Prop) (k67 : (Nat → Int32) → (Nat → Int32) → (Nat → Int32) → Int32 → Int32 → Int32 → Int32 → Prop) (f : Nat → Int32) (st : Nat → Int32) (lb : Nat → Int32) (x3 : Int32) (x4 : Int32) (x5 : Int32) (x6 : Int32) : Prop :=
  (((20 : Int32) < x6 → ((x5 = (-4 : Int32) → wpX7_ask_215 sn p1 p2 Q k36 k67 f st lb x5) ∧ (¬ x5 = (-4 : Int32) → ((p2 = 0 → wpX7_ask_215 sn p1 p2 Q k36 k67 f st lb x5) ∧ (¬ p2 = 0 → Q x4 f st lb))))) ∧ (¬ (20 : Int32) < x6 → (∃ n : Nat, wpX7_ask_80 sn p1 p2 Q k36 k67 n f st lb x3 x4 x5 x6 (0 : Int32) (0 : Int32))))
def wpX7_ask_67 (sn : Nat → Int32) (p1 : Int32) (p2 : Int32) (Q : Int32 → (Nat → Int32) → (Nat → Int32) → (Nat → Int32) → Prop) (k36 : (Nat → Int32) → (Nat → Int32) → (Nat → Int32) → Int32 → Int32 → Int32 → Prop) (n : Nat) : (Nat → Int32) → (Nat → Int32) → (Nat → Int32) → Int32 → Int32 → Int32 → Int32 → Prop :=
  Nat.rec (motive := fun _ => (Nat → Int32) → (Nat → Int32) → (Nat → Int32) → Int32 → Int32 → Int32 → Int32 → Prop) (fun _ _ _ _ _ _ _ => False) (fun _ k => wbX7_ask_67 sn p1 p2 Q k36 k) n
def wbX7_ask_36 (sn : Nat → Int32) (p1 : Int32) (p2 : Int32) (Q : Int32 → (Nat → Int32) → (Nat → Int32) → (Nat → Int32) → Prop) (k36 : (Nat → Int32) → (Nat → Int32) → (Nat → Int32) → Int32 → Int32 → Int32 → Prop) (f : Nat → Int32) (st : Nat → Int32) (lb : Nat → Int32) (x3 : Int32) (x4 : Int32) (x5 : Int32) : Prop :=
  (((20 : Int32) < x5 → (∃ n : Nat, wpX7_ask_67 sn p1 p2 Q k36 n f st lb x3 x4 (-4 : Int32) (0 : Int32))) ∧ (¬ (20 : Int32) < x5 → (∀ x4_20 : Int32, x4_20 = (x4 + ((x3 >>> (x5 &&& 31)) &&& (1 : Int32))) → k36 f st lb x3 x4_20 (x5 + 1))))
def wpX7_ask_36 (sn : Nat → Int32) (p1 : Int32) (p2 : Int32) (Q : Int32 → (Nat → Int32) → (Nat → Int32) → (Nat → Int32) → Prop) (n : Nat) : (Nat → Int32) → (Nat → Int32) → (Nat → Int32) → Int32 → Int32 → Int32 → Prop :=
  Nat.rec (motive := fun _ => (Nat → Int32) → (Nat → Int32) → (Nat → Int32) → Int32 → Int32 → Int32 → Prop) (fun _ _ _ _ _ _ => False) (fun _ k => wbX7_ask_36 sn p1 p2 Q  k) n
def wpX7_ask (f : Nat → Int32) (st : Nat → Int32) (sn : Nat → Int32) (lb : Nat → Int32) (p1 : Int32) (p2 : Int32) (Q : Int32 → (Nat → Int32) → (Nat → Int32) → (Nat → Int32) → Prop) : Prop :=
  (wpX7_isTown f p1 (fun r_1 => ((r_1 = 0 → Q (-1 : Int32) f st lb) ∧ (¬ r_1 = 0 → (wpX7_in (p2.toInt64) (0 : Int64) (1 : Int64) (fun r_3 => ((r_3 = 0 → Q (-1 : Int32) f st lb) ∧ (¬ r_3 = 0 → (wpX7_numbersAt f st sn lb ((5 : Int32) + p1) (20 : Int32) (fun r_5 f_6 st_7 lb_8 => (∃ n : Nat, wpX7_ask_36 sn p1 p2 Q  n f_6 st_7 lb_8 r_5 (0 : Int32) (0 : Int32))))))))))))
set_option maxHeartbeats 4000000 in
theorem metX7_ask (l : Launch) (D : va_G) (kk : Nat → ClassId) (am : Nat → Nat) (sz : Nat) (f : Nat → Int32) (st : Nat → Int32) (sn : Nat → Int32) (lb : Nat → Int32) (p1 : Int32) (p2 : Int32) (Q : Int32 → (Nat → Int32) → (Nat → Int32) → (Nat → Int32) → Prop) (h : wpX7_ask f st sn lb p1 p2 Q) : Met l yX7_ask (ws_ yX7_ask cX7_ask 11 (some .int)) { frames := 6, cells := 0, slots := 0, locals := 149 } (va_Pc ([.ref (am 0), .int p1, .int p2] : List Value) (zPc D kk [zM am f, zA (kk 1) (am 1) 252 st, zA (kk 1) (am 7) 12 sn, zA (kk 1) (am 8) 441 lb] sz)) (va_Qi (fun (r : Int32) (u : (Nat → Int32) × (Nat → Int32) × (Nat → Int32)) => Q r u.1 u.2.1 u.2.2) (zB D (va_A [zM am f, zA (kk 1) (am 1) 252 st, zA (kk 1) (am 7) 12 sn, zA (kk 1) (am 8) 441 lb] sz) (fun u : (Nat → Int32) × (Nat → Int32) × (Nat → Int32) => [zM am u.1, zA (kk 1) (am 1) 252 u.2.1, zA (kk 1) (am 7) 12 sn, zA (kk 1) (am 8) 441 u.2.2])) (va_A [zM am f, zA (kk 1) (am 1) 252 st, zA (kk 1) (am 7) 12 sn, zA (kk 1) (am 8) 441 lb] sz)) 0 0 (va_A [zM am f, zA (kk 1) (am 1) 252 st, zA (kk 1) (am 7) 12 sn, zA (kk 1) (am 8) 441 lb] sz) := by
  refine zMet (Qc := fun A => va_Qi (fun (r : Int32) (u : (Nat → Int32) × (Nat → Int32) × (Nat → Int32)) => Q r u.1 u.2.1 u.2.2) (zB D A (fun u : (Nat → Int32) × (Nat → Int32) × (Nat → Int32) => [zM am u.1, zA (kk 1) (am 1) 252 u.2.1, zA (kk 1) (am 7) 12 sn, zA (kk 1) (am 8) 441 u.2.2])) A) (by decide) (Nat.le_of_ble_eq_true rfl) ?_
  intro p e s m below meth c A X hP hD hS ls hl
  obtain ⟨hx, hb, hr, hml, hown, hts, hlk, hnm, hK, hN, hA⟩ := X
  have hown : s.vm.findClass "LoseLeagueModel" = some m.cls := hown
  have hl : lv_has ls 11 [(0, .ref (am 0)), (1, .int p1), (2, .int p2)] := hl
  unfold wpX7_ask at h
  refine lv_aload_n hx hb dX7_ask_0 rfl (lv_at hl 0 rfl) ?_
  refine lv_iload_n hx hb dX7_ask_1 rfl (lv_at hl 1 rfl) ?_
  have hrc := va_recv hK hP (ci := 7) (q0 := 0) rfl rfl
  refine zc_i (wc := [zM am f]) (wr := [zA (kk 1) (am 1) 252 st, zA (kk 1) (am 7) 12 sn, zA (kk 1) (am 8) 441 lb]) (w1 := (fun u : Unit => [zM am f])) (rest := []) [0] [1, 2, 3] rfl rfl (by decide) (by decide) (by decide) hA hP hD hS (fun hP hD => va_runV (As := [.int p1]) (rest := []) ⟨hx, hb, hml, hown, hts⟩ (metX7_isTown l D kk am _ f p1 _ h) (cwV 1 hts (lw_V q1105 q1107 qs45 q71 q1108) rfl rfl rfl pdX7_isTown ⟨(Nat.le_of_ble_eq_true rfl), (Nat.le_of_ble_eq_true rfl)⟩) (zp_V hK hN hrc hP hD) rfl rfl hl.1 rfl (lv_room (Nat.le_of_ble_eq_true rfl)) dX7_ask_2 ⟨(Nat.le_of_ble_eq_true rfl), (Nat.le_of_ble_eq_true rfl)⟩) (fun r_1 u H locs h hP hD hS => ?_)
  try dsimp only at h
  have hP : va_P D vwCl [zA (kk 1) (am 1) 252 st, zA (kk 1) (am 7) 12 sn, zA (kk 1) (am 8) 441 lb, zM am f] H := hP
  have hD : va_D A [zA (kk 1) (am 1) 252 st, zA (kk 1) (am 7) 12 sn, zA (kk 1) (am 8) 441 lb, zM am f] := hD
  refine lv_if_eq (tgt := 18) hx hb dX7_ask_5 (by decide) (fun c_2 => ?_) (fun c_2 => ?_)
  · have h := h.1 c_2
    refine lv_iconst (v := (-1 : Int32)) hx hb dX7_ask_18 (by decide) ?_
    exact zr_i hx hb hr hlk rfl hP hD hS (f, st, lb) [3, 0, 1, 2] rfl (by decide) dX7_ask_19 h
  · have h := h.2 c_2
    refine lv_iload_n hx hb dX7_ask_8 rfl (lv_at hl 2 rfl) ?_
    refine lv_i2l hx hb dX7_ask_9 rfl ?_
    refine lv_lconst (v := (0 : Int64)) hx hb dX7_ask_10 (by decide) ?_
    refine lv_lconst (v := (1 : Int64)) hx hb dX7_ask_11 (by decide) ?_
    refine zc_i (wc := []) (wr := [zA (kk 1) (am 1) 252 st, zA (kk 1) (am 7) 12 sn, zA (kk 1) (am 8) 441 lb, zM am f]) (w1 := (fun u : Unit => [])) (rest := []) [] [0, 1, 2, 3] rfl rfl (by decide) (by decide) (by decide) hA hP hD hS (fun hP hD => va_runS (As := [.long (p2.toInt64), .long (0 : Int64), .long (1 : Int64)]) (rest := []) ⟨hx, hb, hml, hown, hts⟩ (metX7_in l D kk _ (p2.toInt64) (0 : Int64) (1 : Int64) _ h) (va_cwS 3 hts (lw_S q1033 q1034 q71 q1035) rfl rfl rfl pdX7_in.2 ⟨(Nat.le_of_ble_eq_true rfl), (Nat.le_of_ble_eq_true rfl)⟩) (zp_S hK hN hP hD) rfl rfl hl.1 rfl (lv_room (Nat.le_of_ble_eq_true rfl)) dX7_ask_12 ⟨(Nat.le_of_ble_eq_true rfl), (Nat.le_of_ble_eq_true rfl)⟩) (fun r_3 u H locs h hP hD hS => ?_)
    try dsimp only at h
    have hP : va_P D vwCl [zA (kk 1) (am 1) 252 st, zA (kk 1) (am 7) 12 sn, zA (kk 1) (am 8) 441 lb, zM am f] H := hP
    have hD : va_D A [zA (kk 1) (am 1) 252 st, zA (kk 1) (am 7) 12 sn, zA (kk 1) (am 8) 441 lb, zM am f] := hD
    refine lv_if_ne (tgt := 20) hx hb dX7_ask_15 (by decide) (fun c_4 => ?_) (fun c_4 => ?_)
    · have h := h.2 c_4
      refine lv_aload_n hx hb dX7_ask_20 rfl (lv_at hl 0 rfl) ?_
      refine lv_iconst (v := (5 : Int32)) hx hb dX7_ask_21 (by decide) ?_
      refine lv_iload_n hx hb dX7_ask_22 rfl (lv_at hl 1 rfl) ?_
      refine lv_iadd hx hb dX7_ask_23 ?_
      refine lv_bipush (v := (20 : Int32)) hx hb dX7_ask_24 (by decide) ?_
      have hrc := va_recv hK hP (ci := 7) (q0 := 3) rfl rfl
      refine zc_i (wc := [zM am f, zA (kk 1) (am 1) 252 st, zA (kk 1) (am 7) 12 sn, zA (kk 1) (am 8) 441 lb]) (wr := []) (w1 := (fun u : (Nat → Int32) × (Nat → Int32) × (Nat → Int32) => [zM am u.1, zA (kk 1) (am 1) 252 u.2.1, zA (kk 1) (am 7) 12 sn, zA (kk 1) (am 8) 441 u.2.2])) (rest := []) [3, 0, 1, 2] [] rfl rfl (by decide) (by decide) (by decide) hA hP hD hS (fun hP hD => va_runV (As := [.int ((5 : Int32) + p1), .int (20 : Int32)]) (rest := []) ⟨hx, hb, hml, hown, hts⟩ (metX7_numbersAt l D kk am _ f st sn lb ((5 : Int32) + p1) (20 : Int32) _ h) (cwV 2 hts (lw_V q1270 q1272 qs61 q71 q1273) rfl rfl rfl pdX7_numbersAt ⟨(Nat.le_of_ble_eq_true rfl), (Nat.le_of_ble_eq_true rfl)⟩) (zp_V hK hN hrc hP hD) rfl rfl hl.1 rfl (lv_room (Nat.le_of_ble_eq_true rfl)) dX7_ask_26 ⟨(Nat.le_of_ble_eq_true rfl), (Nat.le_of_ble_eq_true rfl)⟩) (fun r_5 u H locs h hP hD hS => ?_)
      obtain ⟨f_6, st_7, lb_8⟩ := u
      try dsimp only at h
      have hP : va_P D vwCl [zM am f_6, zA (kk 1) (am 1) 252 st_7, zA (kk 1) (am 7) 12 sn, zA (kk 1) (am 8) 441 lb_8] H := hP
      have hD : va_D A [zM am f_6, zA (kk 1) (am 1) 252 st_7, zA (kk 1) (am 7) 12 sn, zA (kk 1) (am 8) 441 lb_8] := hD
      refine lv_istore_n (lv' := [(3, .int r_5), (0, .ref (am 0)), (1, .int p1), (2, .int p2)]) hx hb dX7_ask_29 rfl hl (by decide) rfl (fun ls hl => ?_)
      refine lv_iconst (v := (0 : Int32)) hx hb dX7_ask_30 (by decide) ?_
      refine lv_istore (lv' := [(4, .int (0 : Int32)), (3, .int r_5), (0, .ref (am 0)), (1, .int p1), (2, .int p2)]) hx hb dX7_ask_31 hl (by decide) rfl (fun ls hl => ?_)
      refine lv_iconst (v := (0 : Int32)) hx hb dX7_ask_33 (by decide) ?_
      have cut_36 : ∀ (nl36 : Nat) (f : Nat → Int32) (st : Nat → Int32) (lb : Nat → Int32) (x3 : Int32) (x4 : Int32) (x5 : Int32), wpX7_ask_36 sn p1 p2 Q  nl36 f st lb x3 x4 x5 → ∀ (H : Heap) (locs : List Loc), va_P D vwCl [zM am f, zA (kk 1) (am 1) 252 st, zA (kk 1) (am 7) 12 sn, zA (kk 1) (am 8) 441 lb] H → va_D A [zM am f, zA (kk 1) (am 1) 252 st, zA (kk 1) (am 7) 12 sn, zA (kk 1) (am 8) 441 lb] → va_S A s.heap H locs → ∀ ls : Array Slot, lv_has ls 11 [(3, .int x3), (4, .int x4), (5, .int x5), (0, .ref (am 0)), (2, .int p2)] → W p l e { frames := 6, cells := 0, slots := 0, locals := 149 } s m ([.ref (am 0), .int p1, .int p2] : List Value).toArray below meth c H locs 0 0 (MQ below (va_Qi (fun (r : Int32) (u : (Nat → Int32) × (Nat → Int32) × (Nat → Int32)) => Q r u.1 u.2.1 u.2.2) (zB D A (fun u : (Nat → Int32) × (Nat → Int32) × (Nat → Int32) => [zM am u.1, zA (kk 1) (am 1) 252 u.2.1, zA (kk 1) (am 7) 12 sn, zA (kk 1) (am 8) 441 u.2.2])) A) ([.ref (am 0), .int p1, .int p2] : List Value).toArray s 0 0 A) (F0 m 36 ls []) := by
        intro nl36
        induction nl36 with
        | zero => intro f st lb x3 x4 x5 h; exact absurd h id
        | succ nl36 ih_36 =>
          intro f st lb x3 x4 x5 h H locs hP hD hS ls hl
          have h : wbX7_ask_36 sn p1 p2 Q  (wpX7_ask_36 sn p1 p2 Q  nl36) f st lb x3 x4 x5 := h
          unfold wbX7_ask_36 at h
          refine lv_iload hx hb dX7_ask_36 (lv_at hl 2 rfl) ?_
          refine lv_bipush (v := (20 : Int32)) hx hb dX7_ask_38 (by decide) ?_
          refine lv_icmp_gt (tgt := 60) hx hb dX7_ask_40 (by decide) (fun c_9 => ?_) (fun c_9 => ?_)
          · have h := h.1 c_9
            refine lv_bipush (v := (-4 : Int32)) hx hb dX7_ask_60 (by decide) ?_
            refine lv_istore (lv' := [(5, .int (-4 : Int32)), (3, .int x3), (4, .int x4), (0, .ref (am 0)), (2, .int p2)]) hx hb dX7_ask_62 hl (by decide) rfl (fun ls hl => ?_)
            refine lv_iconst (v := (0 : Int32)) hx hb dX7_ask_64 (by decide) ?_
            have cut_67 : ∀ (nl67 : Nat) (f : Nat → Int32) (st : Nat → Int32) (lb : Nat → Int32) (x3 : Int32) (x4 : Int32) (x5 : Int32) (x6 : Int32), wpX7_ask_67 sn p1 p2 Q (wpX7_ask_36 sn p1 p2 Q  nl36) nl67 f st lb x3 x4 x5 x6 → ∀ (H : Heap) (locs : List Loc), va_P D vwCl [zM am f, zA (kk 1) (am 1) 252 st, zA (kk 1) (am 7) 12 sn, zA (kk 1) (am 8) 441 lb] H → va_D A [zM am f, zA (kk 1) (am 1) 252 st, zA (kk 1) (am 7) 12 sn, zA (kk 1) (am 8) 441 lb] → va_S A s.heap H locs → ∀ ls : Array Slot, lv_has ls 11 [(3, .int x3), (4, .int x4), (5, .int x5), (6, .int x6), (0, .ref (am 0)), (2, .int p2)] → W p l e { frames := 6, cells := 0, slots := 0, locals := 149 } s m ([.ref (am 0), .int p1, .int p2] : List Value).toArray below meth c H locs 0 0 (MQ below (va_Qi (fun (r : Int32) (u : (Nat → Int32) × (Nat → Int32) × (Nat → Int32)) => Q r u.1 u.2.1 u.2.2) (zB D A (fun u : (Nat → Int32) × (Nat → Int32) × (Nat → Int32) => [zM am u.1, zA (kk 1) (am 1) 252 u.2.1, zA (kk 1) (am 7) 12 sn, zA (kk 1) (am 8) 441 u.2.2])) A) ([.ref (am 0), .int p1, .int p2] : List Value).toArray s 0 0 A) (F0 m 67 ls []) := by
              intro nl67
              induction nl67 with
              | zero => intro f st lb x3 x4 x5 x6 h; exact absurd h id
              | succ nl67 ih_67 =>
                intro f st lb x3 x4 x5 x6 h H locs hP hD hS ls hl
                have h : wbX7_ask_67 sn p1 p2 Q (wpX7_ask_36 sn p1 p2 Q  nl36) (wpX7_ask_67 sn p1 p2 Q (wpX7_ask_36 sn p1 p2 Q  nl36) nl67) f st lb x3 x4 x5 x6 := h
                unfold wbX7_ask_67 at h
                refine lv_iload hx hb dX7_ask_67 (lv_at hl 3 rfl) ?_
                refine lv_bipush (v := (20 : Int32)) hx hb dX7_ask_69 (by decide) ?_
                refine lv_icmp_gt (tgt := 204) hx hb dX7_ask_71 (by decide) (fun c_10 => ?_) (fun c_10 => ?_)
                · have h := h.1 c_10
                  refine lv_iload hx hb dX7_ask_204 (lv_at hl 2 rfl) ?_
                  refine lv_bipush (v := (-4 : Int32)) hx hb dX7_ask_206 (by decide) ?_
                  have cut_215 : ∀ (f : Nat → Int32) (st : Nat → Int32) (lb : Nat → Int32) (x5 : Int32), wpX7_ask_215 sn p1 p2 Q (wpX7_ask_36 sn p1 p2 Q  nl36) (wpX7_ask_67 sn p1 p2 Q (wpX7_ask_36 sn p1 p2 Q  nl36) nl67) f st lb x5 → ∀ (H : Heap) (locs : List Loc), va_P D vwCl [zM am f, zA (kk 1) (am 1) 252 st, zA (kk 1) (am 7) 12 sn, zA (kk 1) (am 8) 441 lb] H → va_D A [zM am f, zA (kk 1) (am 1) 252 st, zA (kk 1) (am 7) 12 sn, zA (kk 1) (am 8) 441 lb] → va_S A s.heap H locs → ∀ ls : Array Slot, lv_has ls 11 [(5, .int x5)] → W p l e { frames := 6, cells := 0, slots := 0, locals := 149 } s m ([.ref (am 0), .int p1, .int p2] : List Value).toArray below meth c H locs 0 0 (MQ below (va_Qi (fun (r : Int32) (u : (Nat → Int32) × (Nat → Int32) × (Nat → Int32)) => Q r u.1 u.2.1 u.2.2) (zB D A (fun u : (Nat → Int32) × (Nat → Int32) × (Nat → Int32) => [zM am u.1, zA (kk 1) (am 1) 252 u.2.1, zA (kk 1) (am 7) 12 sn, zA (kk 1) (am 8) 441 u.2.2])) A) ([.ref (am 0), .int p1, .int p2] : List Value).toArray s 0 0 A) (F0 m 215 ls []) := by
                    intro f st lb x5 h H locs hP hD hS ls hl
                    unfold wpX7_ask_215 at h
                    refine lv_iload hx hb dX7_ask_215 (lv_at hl 0 rfl) ?_
                    refine lv_goto (tgt := 222) hx hb dX7_ask_217 (by decide) ?_
                    exact zr_i hx hb hr hlk rfl hP hD hS (f, st, lb) [0, 1, 2, 3] rfl (by decide) dX7_ask_222 h
                  refine lv_icmp_eq (tgt := 215) hx hb dX7_ask_208 (by decide) (fun c_11 => ?_) (fun c_11 => ?_)
                  · have h := h.1 c_11
                    exact cut_215 f st lb x5 h _ _ hP hD hS _ (lv_sub hl [2] rfl)
                  · have h := h.2 c_11
                    refine lv_iload_n hx hb dX7_ask_211 rfl (lv_at hl 5 rfl) ?_
                    refine lv_if_ne (tgt := 220) hx hb dX7_ask_212 (by decide) (fun c_12 => ?_) (fun c_12 => ?_)
                    · have h := h.2 c_12
                      refine lv_iload hx hb dX7_ask_220 (lv_at hl 1 rfl) ?_
                      exact zr_i hx hb hr hlk rfl hP hD hS (f, st, lb) [0, 1, 2, 3] rfl (by decide) dX7_ask_222 h
                    · have h := h.1 c_12
                      exact cut_215 f st lb x5 h _ _ hP hD hS _ (lv_sub hl [2] rfl)
                · have h := h.2 c_10
                  refine lv_iconst (v := (0 : Int32)) hx hb dX7_ask_74 (by decide) ?_
                  refine lv_istore (lv' := [(7, .int (0 : Int32)), (3, .int x3), (4, .int x4), (5, .int x5), (6, .int x6), (0, .ref (am 0)), (2, .int p2)]) hx hb dX7_ask_75 hl (by decide) rfl (fun ls hl => ?_)
                  refine lv_iconst (v := (0 : Int32)) hx hb dX7_ask_77 (by decide) ?_
                  have cut_80 : ∀ (nl80 : Nat) (f : Nat → Int32) (st : Nat → Int32) (lb : Nat → Int32) (x3 : Int32) (x4 : Int32) (x5 : Int32) (x6 : Int32) (x7 : Int32) (x8 : Int32), wpX7_ask_80 sn p1 p2 Q (wpX7_ask_36 sn p1 p2 Q  nl36) (wpX7_ask_67 sn p1 p2 Q (wpX7_ask_36 sn p1 p2 Q  nl36) nl67) nl80 f st lb x3 x4 x5 x6 x7 x8 → ∀ (H : Heap) (locs : List Loc), va_P D vwCl [zM am f, zA (kk 1) (am 1) 252 st, zA (kk 1) (am 7) 12 sn, zA (kk 1) (am 8) 441 lb] H → va_D A [zM am f, zA (kk 1) (am 1) 252 st, zA (kk 1) (am 7) 12 sn, zA (kk 1) (am 8) 441 lb] → va_S A s.heap H locs → ∀ ls : Array Slot, lv_has ls 11 [(3, .int x3), (4, .int x4), (5, .int x5), (6, .int x6), (7, .int x7), (8, .int x8), (0, .ref (am 0)), (2, .int p2)] → W p l e { frames := 6, cells := 0, slots := 0, locals := 149 } s m ([.ref (am 0), .int p1, .int p2] : List Value).toArray below meth c H locs 0 0 (MQ below (va_Qi (fun (r : Int32) (u : (Nat → Int32) × (Nat → Int32) × (Nat → Int32)) => Q r u.1 u.2.1 u.2.2) (zB D A (fun u : (Nat → Int32) × (Nat → Int32) × (Nat → Int32) => [zM am u.1, zA (kk 1) (am 1) 252 u.2.1, zA (kk 1) (am 7) 12 sn, zA (kk 1) (am 8) 441 u.2.2])) A) ([.ref (am 0), .int p1, .int p2] : List Value).toArray s 0 0 A) (F0 m 80 ls []) := by
                    intro nl80
                    induction nl80 with
                    | zero => intro f st lb x3 x4 x5 x6 x7 x8 h; exact absurd h id
                    | succ nl80 ih_80 =>
                      intro f st lb x3 x4 x5 x6 x7 x8 h H locs hP hD hS ls hl
                      have h : wbX7_ask_80 sn p1 p2 Q (wpX7_ask_36 sn p1 p2 Q  nl36) (wpX7_ask_67 sn p1 p2 Q (wpX7_ask_36 sn p1 p2 Q  nl36) nl67) (wpX7_ask_80 sn p1 p2 Q (wpX7_ask_36 sn p1 p2 Q  nl36) (wpX7_ask_67 sn p1 p2 Q (wpX7_ask_36 sn p1 p2 Q  nl36) nl67) nl80) f st lb x3 x4 x5 x6 x7 x8 := h
                      unfold wbX7_ask_80 at h
                      refine lv_iload hx hb dX7_ask_80 (lv_at hl 5 rfl) ?_
                      refine lv_bipush (v := (9 : Int32)) hx hb dX7_ask_82 (by decide) ?_
                      refine lv_icmp_gt (tgt := 166) hx hb dX7_ask_84 (by decide) (fun c_13 => ?_) (fun c_13 => ?_)
                      · have h := h.1 c_13
                        refine lv_iload hx hb dX7_ask_166 (lv_at hl 4 rfl) ?_
                        refine lv_iload hx hb dX7_ask_168 (lv_at hl 1 rfl) ?_
                        have cut_180 : ∀ (f : Nat → Int32) (st : Nat → Int32) (lb : Nat → Int32) (x3 : Int32) (x4 : Int32) (x6 : Int32) (x7 : Int32) (s0 : Int32), wpX7_ask_180 sn p1 p2 Q (wpX7_ask_36 sn p1 p2 Q  nl36) (wpX7_ask_67 sn p1 p2 Q (wpX7_ask_36 sn p1 p2 Q  nl36) nl67) (wpX7_ask_80 sn p1 p2 Q (wpX7_ask_36 sn p1 p2 Q  nl36) (wpX7_ask_67 sn p1 p2 Q (wpX7_ask_36 sn p1 p2 Q  nl36) nl67) nl80) f st lb x3 x4 x6 x7 s0 → ∀ (H : Heap) (locs : List Loc), va_P D vwCl [zM am f, zA (kk 1) (am 1) 252 st, zA (kk 1) (am 7) 12 sn, zA (kk 1) (am 8) 441 lb] H → va_D A [zM am f, zA (kk 1) (am 1) 252 st, zA (kk 1) (am 7) 12 sn, zA (kk 1) (am 8) 441 lb] → va_S A s.heap H locs → ∀ ls : Array Slot, lv_has ls 11 [(3, .int x3), (4, .int x4), (6, .int x6), (7, .int x7), (0, .ref (am 0)), (2, .int p2)] → W p l e { frames := 6, cells := 0, slots := 0, locals := 149 } s m ([.ref (am 0), .int p1, .int p2] : List Value).toArray below meth c H locs 0 0 (MQ below (va_Qi (fun (r : Int32) (u : (Nat → Int32) × (Nat → Int32) × (Nat → Int32)) => Q r u.1 u.2.1 u.2.2) (zB D A (fun u : (Nat → Int32) × (Nat → Int32) × (Nat → Int32) => [zM am u.1, zA (kk 1) (am 1) 252 u.2.1, zA (kk 1) (am 7) 12 sn, zA (kk 1) (am 8) 441 u.2.2])) A) ([.ref (am 0), .int p1, .int p2] : List Value).toArray s 0 0 A) (F0 m 180 ls [.int s0]) := by
                          intro f st lb x3 x4 x6 x7 s0 h H locs hP hD hS ls hl
                          unfold wpX7_ask_180 at h
                          refine lv_istore (lv' := [(5, .int s0), (3, .int x3), (4, .int x4), (6, .int x6), (7, .int x7), (0, .ref (am 0)), (2, .int p2)]) hx hb dX7_ask_180 hl (by decide) rfl (fun ls hl => ?_)
                          refine lv_iload hx hb dX7_ask_182 (lv_at hl 4 rfl) ?_
                          refine lv_iload hx hb dX7_ask_184 (lv_at hl 2 rfl) ?_
                          have cut_196 : ∀ (f : Nat → Int32) (st : Nat → Int32) (lb : Nat → Int32) (x3 : Int32) (x5 : Int32) (x6 : Int32) (s0 : Int32), wpX7_ask_196 sn p1 p2 Q (wpX7_ask_36 sn p1 p2 Q  nl36) (wpX7_ask_67 sn p1 p2 Q (wpX7_ask_36 sn p1 p2 Q  nl36) nl67) (wpX7_ask_80 sn p1 p2 Q (wpX7_ask_36 sn p1 p2 Q  nl36) (wpX7_ask_67 sn p1 p2 Q (wpX7_ask_36 sn p1 p2 Q  nl36) nl67) nl80) f st lb x3 x5 x6 s0 → ∀ (H : Heap) (locs : List Loc), va_P D vwCl [zM am f, zA (kk 1) (am 1) 252 st, zA (kk 1) (am 7) 12 sn, zA (kk 1) (am 8) 441 lb] H → va_D A [zM am f, zA (kk 1) (am 1) 252 st, zA (kk 1) (am 7) 12 sn, zA (kk 1) (am 8) 441 lb] → va_S A s.heap H locs → ∀ ls : Array Slot, lv_has ls 11 [(3, .int x3), (5, .int x5), (6, .int x6), (0, .ref (am 0)), (2, .int p2)] → W p l e { frames := 6, cells := 0, slots := 0, locals := 149 } s m ([.ref (am 0), .int p1, .int p2] : List Value).toArray below meth c H locs 0 0 (MQ below (va_Qi (fun (r : Int32) (u : (Nat → Int32) × (Nat → Int32) × (Nat → Int32)) => Q r u.1 u.2.1 u.2.2) (zB D A (fun u : (Nat → Int32) × (Nat → Int32) × (Nat → Int32) => [zM am u.1, zA (kk 1) (am 1) 252 u.2.1, zA (kk 1) (am 7) 12 sn, zA (kk 1) (am 8) 441 u.2.2])) A) ([.ref (am 0), .int p1, .int p2] : List Value).toArray s 0 0 A) (F0 m 196 ls [.int s0]) := by
                            intro f st lb x3 x5 x6 s0 h H locs hP hD hS ls hl
                            unfold wpX7_ask_196 at h
                            refine lv_istore (lv' := [(4, .int s0), (3, .int x3), (5, .int x5), (6, .int x6), (0, .ref (am 0)), (2, .int p2)]) hx hb dX7_ask_196 hl (by decide) rfl (fun ls hl => ?_)
                            refine lv_iinc (v := (x6 + 1)) (lv' := [(6, .int (x6 + 1)), (4, .int s0), (3, .int x3), (5, .int x5), (0, .ref (am 0)), (2, .int p2)]) hx hb dX7_ask_198 hl (k := 3) rfl rfl (by decide) rfl (fun ls hl => ?_)
                            refine lv_goto (tgt := 67) hx hb dX7_ask_201 (by decide) ?_
                            exact ih_67 f st lb x3 s0 x5 (x6 + 1) h _ _ hP hD hS _ (lv_sub hl [2, 1, 3, 0, 4, 5] rfl)
                          refine lv_icmp_ge (tgt := 194) hx hb dX7_ask_186 (by decide) (fun c_14 => ?_) (fun c_14 => ?_)
                          · have h := h.1 c_14
                            refine lv_iload hx hb dX7_ask_194 (lv_at hl 2 rfl) ?_
                            exact cut_196 f st lb x3 s0 x6 x4 h _ _ hP hD hS _ (lv_sub hl [1, 0, 3, 5, 6] rfl)
                          · have h := h.2 c_14
                            refine lv_iload hx hb dX7_ask_189 (lv_at hl 4 rfl) ?_
                            refine lv_goto (tgt := 196) hx hb dX7_ask_191 (by decide) ?_
                            exact cut_196 f st lb x3 s0 x6 x7 h _ _ hP hD hS _ (lv_sub hl [1, 0, 3, 5, 6] rfl)
                        refine lv_icmp_ge (tgt := 178) hx hb dX7_ask_170 (by decide) (fun c_15 => ?_) (fun c_15 => ?_)
                        · have h := h.1 c_15
                          refine lv_iload hx hb dX7_ask_178 (lv_at hl 2 rfl) ?_
                          exact cut_180 f st lb x3 x4 x6 x7 x5 h _ _ hP hD hS _ (lv_sub hl [0, 1, 3, 4, 6, 7] rfl)
                        · have h := h.2 c_15
                          refine lv_iload hx hb dX7_ask_173 (lv_at hl 3 rfl) ?_
                          refine lv_goto (tgt := 180) hx hb dX7_ask_175 (by decide) ?_
                          exact cut_180 f st lb x3 x4 x6 x7 x6 h _ _ hP hD hS _ (lv_sub hl [0, 1, 3, 4, 6, 7] rfl)
                      · have h := h.2 c_13
                        refine lv_iconst (v := (0 : Int32)) hx hb dX7_ask_87 (by decide) ?_
                        refine lv_istore (lv' := [(9, .int (0 : Int32)), (3, .int x3), (4, .int x4), (5, .int x5), (6, .int x6), (7, .int x7), (8, .int x8), (0, .ref (am 0)), (2, .int p2)]) hx hb dX7_ask_88 hl (by decide) rfl (fun ls hl => ?_)
                        refine lv_iconst (v := (0 : Int32)) hx hb dX7_ask_90 (by decide) ?_
                        have cut_93 : ∀ (nl93 : Nat) (f : Nat → Int32) (st : Nat → Int32) (lb : Nat → Int32) (x3 : Int32) (x4 : Int32) (x5 : Int32) (x6 : Int32) (x7 : Int32) (x8 : Int32) (x9 : Int32) (x10 : Int32), wpX7_ask_93 sn p1 p2 Q (wpX7_ask_36 sn p1 p2 Q  nl36) (wpX7_ask_67 sn p1 p2 Q (wpX7_ask_36 sn p1 p2 Q  nl36) nl67) (wpX7_ask_80 sn p1 p2 Q (wpX7_ask_36 sn p1 p2 Q  nl36) (wpX7_ask_67 sn p1 p2 Q (wpX7_ask_36 sn p1 p2 Q  nl36) nl67) nl80) nl93 f st lb x3 x4 x5 x6 x7 x8 x9 x10 → ∀ (H : Heap) (locs : List Loc), va_P D vwCl [zM am f, zA (kk 1) (am 1) 252 st, zA (kk 1) (am 7) 12 sn, zA (kk 1) (am 8) 441 lb] H → va_D A [zM am f, zA (kk 1) (am 1) 252 st, zA (kk 1) (am 7) 12 sn, zA (kk 1) (am 8) 441 lb] → va_S A s.heap H locs → ∀ ls : Array Slot, lv_has ls 11 [(3, .int x3), (4, .int x4), (5, .int x5), (6, .int x6), (7, .int x7), (8, .int x8), (9, .int x9), (10, .int x10), (0, .ref (am 0)), (2, .int p2)] → W p l e { frames := 6, cells := 0, slots := 0, locals := 149 } s m ([.ref (am 0), .int p1, .int p2] : List Value).toArray below meth c H locs 0 0 (MQ below (va_Qi (fun (r : Int32) (u : (Nat → Int32) × (Nat → Int32) × (Nat → Int32)) => Q r u.1 u.2.1 u.2.2) (zB D A (fun u : (Nat → Int32) × (Nat → Int32) × (Nat → Int32) => [zM am u.1, zA (kk 1) (am 1) 252 u.2.1, zA (kk 1) (am 7) 12 sn, zA (kk 1) (am 8) 441 u.2.2])) A) ([.ref (am 0), .int p1, .int p2] : List Value).toArray s 0 0 A) (F0 m 93 ls []) := by
                          intro nl93
                          induction nl93 with
                          | zero => intro f st lb x3 x4 x5 x6 x7 x8 x9 x10 h; exact absurd h id
                          | succ nl93 ih_93 =>
                            intro f st lb x3 x4 x5 x6 x7 x8 x9 x10 h H locs hP hD hS ls hl
                            have h : wbX7_ask_93 sn p1 p2 Q (wpX7_ask_36 sn p1 p2 Q  nl36) (wpX7_ask_67 sn p1 p2 Q (wpX7_ask_36 sn p1 p2 Q  nl36) nl67) (wpX7_ask_80 sn p1 p2 Q (wpX7_ask_36 sn p1 p2 Q  nl36) (wpX7_ask_67 sn p1 p2 Q (wpX7_ask_36 sn p1 p2 Q  nl36) nl67) nl80) (wpX7_ask_93 sn p1 p2 Q (wpX7_ask_36 sn p1 p2 Q  nl36) (wpX7_ask_67 sn p1 p2 Q (wpX7_ask_36 sn p1 p2 Q  nl36) nl67) (wpX7_ask_80 sn p1 p2 Q (wpX7_ask_36 sn p1 p2 Q  nl36) (wpX7_ask_67 sn p1 p2 Q (wpX7_ask_36 sn p1 p2 Q  nl36) nl67) nl80) nl93) f st lb x3 x4 x5 x6 x7 x8 x9 x10 := h
                            unfold wbX7_ask_93 at h
                            refine lv_iload hx hb dX7_ask_93 (lv_at hl 7 rfl) ?_
                            refine lv_bipush (v := (20 : Int32)) hx hb dX7_ask_95 (by decide) ?_
                            refine lv_icmp_gt (tgt := 144) hx hb dX7_ask_97 (by decide) (fun c_16 => ?_) (fun c_16 => ?_)
                            · have h := h.1 c_16
                              refine lv_iload hx hb dX7_ask_144 (lv_at hl 6 rfl) ?_
                              refine lv_iload hx hb dX7_ask_146 (lv_at hl 4 rfl) ?_
                              have cut_158 : ∀ (f : Nat → Int32) (st : Nat → Int32) (lb : Nat → Int32) (x3 : Int32) (x4 : Int32) (x5 : Int32) (x6 : Int32) (x8 : Int32) (s0 : Int32), wpX7_ask_158 sn p1 p2 Q (wpX7_ask_36 sn p1 p2 Q  nl36) (wpX7_ask_67 sn p1 p2 Q (wpX7_ask_36 sn p1 p2 Q  nl36) nl67) (wpX7_ask_80 sn p1 p2 Q (wpX7_ask_36 sn p1 p2 Q  nl36) (wpX7_ask_67 sn p1 p2 Q (wpX7_ask_36 sn p1 p2 Q  nl36) nl67) nl80) (wpX7_ask_93 sn p1 p2 Q (wpX7_ask_36 sn p1 p2 Q  nl36) (wpX7_ask_67 sn p1 p2 Q (wpX7_ask_36 sn p1 p2 Q  nl36) nl67) (wpX7_ask_80 sn p1 p2 Q (wpX7_ask_36 sn p1 p2 Q  nl36) (wpX7_ask_67 sn p1 p2 Q (wpX7_ask_36 sn p1 p2 Q  nl36) nl67) nl80) nl93) f st lb x3 x4 x5 x6 x8 s0 → ∀ (H : Heap) (locs : List Loc), va_P D vwCl [zM am f, zA (kk 1) (am 1) 252 st, zA (kk 1) (am 7) 12 sn, zA (kk 1) (am 8) 441 lb] H → va_D A [zM am f, zA (kk 1) (am 1) 252 st, zA (kk 1) (am 7) 12 sn, zA (kk 1) (am 8) 441 lb] → va_S A s.heap H locs → ∀ ls : Array Slot, lv_has ls 11 [(3, .int x3), (4, .int x4), (5, .int x5), (6, .int x6), (8, .int x8), (0, .ref (am 0)), (2, .int p2)] → W p l e { frames := 6, cells := 0, slots := 0, locals := 149 } s m ([.ref (am 0), .int p1, .int p2] : List Value).toArray below meth c H locs 0 0 (MQ below (va_Qi (fun (r : Int32) (u : (Nat → Int32) × (Nat → Int32) × (Nat → Int32)) => Q r u.1 u.2.1 u.2.2) (zB D A (fun u : (Nat → Int32) × (Nat → Int32) × (Nat → Int32) => [zM am u.1, zA (kk 1) (am 1) 252 u.2.1, zA (kk 1) (am 7) 12 sn, zA (kk 1) (am 8) 441 u.2.2])) A) ([.ref (am 0), .int p1, .int p2] : List Value).toArray s 0 0 A) (F0 m 158 ls [.int s0]) := by
                                intro f st lb x3 x4 x5 x6 x8 s0 h H locs hP hD hS ls hl
                                unfold wpX7_ask_158 at h
                                refine lv_istore (lv' := [(7, .int s0), (3, .int x3), (4, .int x4), (5, .int x5), (6, .int x6), (8, .int x8), (0, .ref (am 0)), (2, .int p2)]) hx hb dX7_ask_158 hl (by decide) rfl (fun ls hl => ?_)
                                refine lv_iinc (v := (x8 + 1)) (lv' := [(8, .int (x8 + 1)), (7, .int s0), (3, .int x3), (4, .int x4), (5, .int x5), (6, .int x6), (0, .ref (am 0)), (2, .int p2)]) hx hb dX7_ask_160 hl (k := 5) rfl rfl (by decide) rfl (fun ls hl => ?_)
                                refine lv_goto (tgt := 80) hx hb dX7_ask_163 (by decide) ?_
                                exact ih_80 f st lb x3 x4 x5 x6 s0 (x8 + 1) h _ _ hP hD hS _ (lv_sub hl [2, 3, 4, 5, 1, 0, 6, 7] rfl)
                              refine lv_icmp_le (tgt := 156) hx hb dX7_ask_148 (by decide) (fun c_17 => ?_) (fun c_17 => ?_)
                              · have h := h.1 c_17
                                refine lv_iload hx hb dX7_ask_156 (lv_at hl 4 rfl) ?_
                                exact cut_158 f st lb x3 x4 x5 x6 x8 x7 h _ _ hP hD hS _ (lv_sub hl [0, 1, 2, 3, 5, 8, 9] rfl)
                              · have h := h.2 c_17
                                refine lv_iload hx hb dX7_ask_151 (lv_at hl 6 rfl) ?_
                                refine lv_goto (tgt := 158) hx hb dX7_ask_153 (by decide) ?_
                                exact cut_158 f st lb x3 x4 x5 x6 x8 x9 h _ _ hP hD hS _ (lv_sub hl [0, 1, 2, 3, 5, 8, 9] rfl)
                            · have h := h.2 c_16
                              refine lv_iload hx hb dX7_ask_100 (lv_at hl 6 rfl) ?_
                              refine lv_iload_n hx hb dX7_ask_102 rfl (lv_at hl 0 rfl) ?_
                              refine lv_iload hx hb dX7_ask_103 (lv_at hl 7 rfl) ?_
                              refine lv_ishr hx hb dX7_ask_105 ?_
                              refine lv_iconst (v := (1 : Int32)) hx hb dX7_ask_106 (by decide) ?_
                              refine lv_iand hx hb dX7_ask_107 ?_
                              refine lv_iconst (v := (1 : Int32)) hx hb dX7_ask_108 (by decide) ?_
                              have cut_135 : ∀ (f : Nat → Int32) (st : Nat → Int32) (lb : Nat → Int32) (x3 : Int32) (x4 : Int32) (x5 : Int32) (x6 : Int32) (x7 : Int32) (x8 : Int32) (x10 : Int32) (s1 : Int32) (s0 : Int32), wpX7_ask_135 sn p1 p2 Q (wpX7_ask_36 sn p1 p2 Q  nl36) (wpX7_ask_67 sn p1 p2 Q (wpX7_ask_36 sn p1 p2 Q  nl36) nl67) (wpX7_ask_80 sn p1 p2 Q (wpX7_ask_36 sn p1 p2 Q  nl36) (wpX7_ask_67 sn p1 p2 Q (wpX7_ask_36 sn p1 p2 Q  nl36) nl67) nl80) (wpX7_ask_93 sn p1 p2 Q (wpX7_ask_36 sn p1 p2 Q  nl36) (wpX7_ask_67 sn p1 p2 Q (wpX7_ask_36 sn p1 p2 Q  nl36) nl67) (wpX7_ask_80 sn p1 p2 Q (wpX7_ask_36 sn p1 p2 Q  nl36) (wpX7_ask_67 sn p1 p2 Q (wpX7_ask_36 sn p1 p2 Q  nl36) nl67) nl80) nl93) f st lb x3 x4 x5 x6 x7 x8 x10 s1 s0 → ∀ (H : Heap) (locs : List Loc), va_P D vwCl [zM am f, zA (kk 1) (am 1) 252 st, zA (kk 1) (am 7) 12 sn, zA (kk 1) (am 8) 441 lb] H → va_D A [zM am f, zA (kk 1) (am 1) 252 st, zA (kk 1) (am 7) 12 sn, zA (kk 1) (am 8) 441 lb] → va_S A s.heap H locs → ∀ ls : Array Slot, lv_has ls 11 [(3, .int x3), (4, .int x4), (5, .int x5), (6, .int x6), (7, .int x7), (8, .int x8), (10, .int x10), (0, .ref (am 0)), (2, .int p2)] → W p l e { frames := 6, cells := 0, slots := 0, locals := 149 } s m ([.ref (am 0), .int p1, .int p2] : List Value).toArray below meth c H locs 0 0 (MQ below (va_Qi (fun (r : Int32) (u : (Nat → Int32) × (Nat → Int32) × (Nat → Int32)) => Q r u.1 u.2.1 u.2.2) (zB D A (fun u : (Nat → Int32) × (Nat → Int32) × (Nat → Int32) => [zM am u.1, zA (kk 1) (am 1) 252 u.2.1, zA (kk 1) (am 7) 12 sn, zA (kk 1) (am 8) 441 u.2.2])) A) ([.ref (am 0), .int p1, .int p2] : List Value).toArray s 0 0 A) (F0 m 135 ls [.int s1, .int s0]) := by
                                intro f st lb x3 x4 x5 x6 x7 x8 x10 s1 s0 h H locs hP hD hS ls hl
                                unfold wpX7_ask_135 at h
                                refine lv_iadd hx hb dX7_ask_135 ?_
                                refine lv_istore (lv' := [(9, .int (s0 + s1)), (3, .int x3), (4, .int x4), (5, .int x5), (6, .int x6), (7, .int x7), (8, .int x8), (10, .int x10), (0, .ref (am 0)), (2, .int p2)]) hx hb dX7_ask_136 hl (by decide) rfl (fun ls hl => ?_)
                                refine lv_iinc (v := (x10 + 1)) (lv' := [(10, .int (x10 + 1)), (9, .int (s0 + s1)), (3, .int x3), (4, .int x4), (5, .int x5), (6, .int x6), (7, .int x7), (8, .int x8), (0, .ref (am 0)), (2, .int p2)]) hx hb dX7_ask_138 hl (k := 7) rfl rfl (by decide) rfl (fun ls hl => ?_)
                                refine lv_goto (tgt := 93) hx hb dX7_ask_141 (by decide) ?_
                                exact ih_93 f st lb x3 x4 x5 x6 x7 x8 (s0 + s1) (x10 + 1) h _ _ hP hD hS _ (lv_sub hl [2, 3, 4, 5, 6, 7, 1, 0, 8, 9] rfl)
                              have cut_134 : ∀ (f : Nat → Int32) (st : Nat → Int32) (lb : Nat → Int32) (x3 : Int32) (x4 : Int32) (x5 : Int32) (x6 : Int32) (x7 : Int32) (x8 : Int32) (x10 : Int32) (s0 : Int32), wpX7_ask_134 sn p1 p2 Q (wpX7_ask_36 sn p1 p2 Q  nl36) (wpX7_ask_67 sn p1 p2 Q (wpX7_ask_36 sn p1 p2 Q  nl36) nl67) (wpX7_ask_80 sn p1 p2 Q (wpX7_ask_36 sn p1 p2 Q  nl36) (wpX7_ask_67 sn p1 p2 Q (wpX7_ask_36 sn p1 p2 Q  nl36) nl67) nl80) (wpX7_ask_93 sn p1 p2 Q (wpX7_ask_36 sn p1 p2 Q  nl36) (wpX7_ask_67 sn p1 p2 Q (wpX7_ask_36 sn p1 p2 Q  nl36) nl67) (wpX7_ask_80 sn p1 p2 Q (wpX7_ask_36 sn p1 p2 Q  nl36) (wpX7_ask_67 sn p1 p2 Q (wpX7_ask_36 sn p1 p2 Q  nl36) nl67) nl80) nl93) f st lb x3 x4 x5 x6 x7 x8 x10 s0 → ∀ (H : Heap) (locs : List Loc), va_P D vwCl [zM am f, zA (kk 1) (am 1) 252 st, zA (kk 1) (am 7) 12 sn, zA (kk 1) (am 8) 441 lb] H → va_D A [zM am f, zA (kk 1) (am 1) 252 st, zA (kk 1) (am 7) 12 sn, zA (kk 1) (am 8) 441 lb] → va_S A s.heap H locs → ∀ ls : Array Slot, lv_has ls 11 [(3, .int x3), (4, .int x4), (5, .int x5), (6, .int x6), (7, .int x7), (8, .int x8), (10, .int x10), (0, .ref (am 0)), (2, .int p2)] → W p l e { frames := 6, cells := 0, slots := 0, locals := 149 } s m ([.ref (am 0), .int p1, .int p2] : List Value).toArray below meth c H locs 0 0 (MQ below (va_Qi (fun (r : Int32) (u : (Nat → Int32) × (Nat → Int32) × (Nat → Int32)) => Q r u.1 u.2.1 u.2.2) (zB D A (fun u : (Nat → Int32) × (Nat → Int32) × (Nat → Int32) => [zM am u.1, zA (kk 1) (am 1) 252 u.2.1, zA (kk 1) (am 7) 12 sn, zA (kk 1) (am 8) 441 u.2.2])) A) ([.ref (am 0), .int p1, .int p2] : List Value).toArray s 0 0 A) (F0 m 134 ls [.int s0]) := by
                                intro f st lb x3 x4 x5 x6 x7 x8 x10 s0 h H locs hP hD hS ls hl
                                unfold wpX7_ask_134 at h
                                refine lv_iconst (v := (0 : Int32)) hx hb dX7_ask_134 (by decide) ?_
                                exact cut_135 f st lb x3 x4 x5 x6 x7 x8 x10 (0 : Int32) s0 h _ _ hP hD hS _ (lv_sub hl [0, 1, 2, 3, 4, 5, 6, 7, 8] rfl)
                              refine lv_icmp_ne (tgt := 134) hx hb dX7_ask_109 (by decide) (fun c_18 => ?_) (fun c_18 => ?_)
                              · have h := h.2 c_18
                                exact cut_134 f st lb x3 x4 x5 x6 x7 x8 x10 x9 h _ _ hP hD hS _ (lv_sub hl [0, 1, 2, 3, 4, 5, 7, 8, 9] rfl)
                              · have h := h.1 c_18
                                refine lv_aload_n hx hb dX7_ask_112 rfl (lv_at hl 8 rfl) ?_
                                refine va_get (D := D) (ci := 7) (v := .ref (am 8)) (C := RX7) (T := TX7) (N := 29) hx hb hts in_X7 hown hK hP 0 rfl rfl 23 (Nat.le_of_ble_eq_true rfl) (hts _ q962) (fun _ h9 => h9) rfl dX7_ask_113 ?_
                                refine lv_bipush (v := (21 : Int32)) hx hb dX7_ask_116 (by decide) ?_
                                refine lv_iload hx hb dX7_ask_118 (lv_at hl 7 rfl) ?_
                                refine lv_imul hx hb dX7_ask_120 ?_
                                refine lv_iload hx hb dX7_ask_121 (lv_at hl 3 rfl) ?_
                                refine lv_iadd hx hb dX7_ask_123 ?_
                                obtain ⟨hin, h⟩ := h
                                refine va_iald hx hb hK hP 3 1 rfl rfl hin dX7_ask_124 ?_
                                refine lv_iload hx hb dX7_ask_125 (lv_at hl 5 rfl) ?_
                                refine lv_icmp_ne (tgt := 134) hx hb dX7_ask_127 (by decide) (fun c_19 => ?_) (fun c_19 => ?_)
                                · have h := h.2 c_19
                                  exact cut_134 f st lb x3 x4 x5 x6 x7 x8 x10 x9 h _ _ hP hD hS _ (lv_sub hl [0, 1, 2, 3, 4, 5, 7, 8, 9] rfl)
                                · have h := h.1 c_19
                                  refine lv_iconst (v := (1 : Int32)) hx hb dX7_ask_130 (by decide) ?_
                                  refine lv_goto (tgt := 135) hx hb dX7_ask_131 (by decide) ?_
                                  exact cut_135 f st lb x3 x4 x5 x6 x7 x8 x10 (1 : Int32) x9 h _ _ hP hD hS _ (lv_sub hl [0, 1, 2, 3, 4, 5, 7, 8, 9] rfl)
                        refine lv_istore (lv' := [(10, .int (0 : Int32)), (9, .int (0 : Int32)), (3, .int x3), (4, .int x4), (5, .int x5), (6, .int x6), (7, .int x7), (8, .int x8), (0, .ref (am 0)), (2, .int p2)]) hx hb dX7_ask_91 hl (by decide) rfl (fun ls hl => ?_)
                        obtain ⟨n_93, h⟩ := h
                        exact cut_93 n_93 f st lb x3 x4 x5 x6 x7 x8 (0 : Int32) (0 : Int32) h _ _ hP hD hS _ (lv_sub hl [2, 3, 4, 5, 6, 7, 1, 0, 8, 9] rfl)
                  refine lv_istore (lv' := [(8, .int (0 : Int32)), (7, .int (0 : Int32)), (3, .int x3), (4, .int x4), (5, .int x5), (6, .int x6), (0, .ref (am 0)), (2, .int p2)]) hx hb dX7_ask_78 hl (by decide) rfl (fun ls hl => ?_)
                  obtain ⟨n_80, h⟩ := h
                  exact cut_80 n_80 f st lb x3 x4 x5 x6 (0 : Int32) (0 : Int32) h _ _ hP hD hS _ (lv_sub hl [2, 3, 4, 5, 1, 0, 6, 7] rfl)
            refine lv_istore (lv' := [(6, .int (0 : Int32)), (5, .int (-4 : Int32)), (3, .int x3), (4, .int x4), (0, .ref (am 0)), (2, .int p2)]) hx hb dX7_ask_65 hl (by decide) rfl (fun ls hl => ?_)
            obtain ⟨n_67, h⟩ := h
            exact cut_67 n_67 f st lb x3 x4 (-4 : Int32) (0 : Int32) h _ _ hP hD hS _ (lv_sub hl [2, 3, 1, 0, 4, 5] rfl)
          · have h := h.2 c_9
            refine lv_iload hx hb dX7_ask_43 (lv_at hl 1 rfl) ?_
            refine lv_iload_n hx hb dX7_ask_45 rfl (lv_at hl 0 rfl) ?_
            refine lv_iload hx hb dX7_ask_46 (lv_at hl 2 rfl) ?_
            refine lv_ishr hx hb dX7_ask_48 ?_
            refine lv_iconst (v := (1 : Int32)) hx hb dX7_ask_49 (by decide) ?_
            refine lv_iand hx hb dX7_ask_50 ?_
            refine lv_iadd hx hb dX7_ask_51 ?_
            refine lv_topi (fun x4_20 ex4_20 => ?_)
            have h := h x4_20 ex4_20
            refine lv_istore (lv' := [(4, .int x4_20), (3, .int x3), (5, .int x5), (0, .ref (am 0)), (2, .int p2)]) hx hb dX7_ask_52 hl (by decide) rfl (fun ls hl => ?_)
            refine lv_iinc (v := (x5 + 1)) (lv' := [(5, .int (x5 + 1)), (4, .int x4_20), (3, .int x3), (0, .ref (am 0)), (2, .int p2)]) hx hb dX7_ask_54 hl (k := 2) rfl rfl (by decide) rfl (fun ls hl => ?_)
            refine lv_goto (tgt := 36) hx hb dX7_ask_57 (by decide) ?_
            exact ih_36 f st lb x3 x4_20 (x5 + 1) h _ _ hP hD hS _ (lv_sub hl [2, 1, 0, 3, 4] rfl)
      refine lv_istore (lv' := [(5, .int (0 : Int32)), (4, .int (0 : Int32)), (3, .int r_5), (0, .ref (am 0)), (1, .int p1), (2, .int p2)]) hx hb dX7_ask_34 hl (by decide) rfl (fun ls hl => ?_)
      obtain ⟨n_36, h⟩ := h
      exact cut_36 n_36 f_6 st_7 lb_8 r_5 (0 : Int32) (0 : Int32) h _ _ hP hD hS _ (lv_sub hl [2, 1, 0, 3, 5] rfl)
    · have h := h.1 c_4
      refine lv_iconst (v := (-1 : Int32)) hx hb dX7_ask_18 (by decide) ?_
      exact zr_i hx hb hr hlk rfl hP hD hS (f, st, lb) [3, 0, 1, 2] rfl (by decide) dX7_ask_19 h
def wbX7_drift_54 (p1 : Int32) (p2 : Int32) (p3 : Int32) (Q : Int32 → (Nat → Int32) → (Nat → Int32) → Prop) (k54 : (Nat → Int32) → (Nat → Int32) → Int32 → Int32 → Prop) (f : Nat → Int32) (st : Nat → Int32) (x4 : Int32) (x5 : Int32) : Prop :=
  ((p2 ≤ x5 → ((p3 = 0 → (wpX7_owedOn f st (168 : Int32) (fun r_10 => Q r_10 f st))) ∧ (¬ p3 = 0 → Q (f 17) f st))) ∧ (¬ p2 ≤ x5 → (∀ x4_11 : Int32, x4_11 = ((x4 * (1103515245 : Int32)) + (12345 : Int32)) → (∀ x6_12 : Int32, x6_12 = ((x4_11 >>> ((16 : Int32) &&& 31)) &&& (32767 : Int32)) → ((¬ (f 1) = 0) ∧ (∀ x7_13 : Int32, x7_13 = (x6_12 - x6_12 / (f 1) * (f 1)) → ((¬ ((f 1) - (1 : Int32)) = 0) ∧ ((¬ (f 1) = 0) ∧ (wpX7_playedOn f st (168 : Int32) x7_13 (((x7_13 + (1 : Int32)) + ((x6_12 / (8 : Int32)) - (x6_12 / (8 : Int32)) / ((f 1) - (1 : Int32)) * ((f 1) - (1 : Int32)))) - ((x7_13 + (1 : Int32)) + ((x6_12 / (8 : Int32)) - (x6_12 / (8 : Int32)) / ((f 1) - (1 : Int32)) * ((f 1) - (1 : Int32)))) / (f 1) * (f 1)) (fun f_15 st_16 => (wpX7_weekOn f_15 st_16 (168 : Int32) (1 : Int32) (fun f_18 st_19 => k54 f_18 st_19 x4_11 (x5 + 1)))))))))))))
def wpX7_drift_54 (p1 : Int32) (p2 : Int32) (p3 : Int32) (Q : Int32 → (Nat → Int32) → (Nat → Int32) → Prop) (n : Nat) : (Nat → Int32) → (Nat → Int32) → Int32 → Int32 → Prop :=
  Nat.rec (motive := fun _ => (Nat → Int32) → (Nat → Int32) → Int32 → Int32 → Prop) (fun _ _ _ _ => False) (fun _ k => wbX7_drift_54 p1 p2 p3 Q  k) n
def wpX7_drift (f : Nat → Int32) (st : Nat → Int32) (p1 : Int32) (p2 : Int32) (p3 : Int32) (Q : Int32 → (Nat → Int32) → (Nat → Int32) → Prop) : Prop :=
  (wpX7_in (p2.toInt64) (1 : Int64) (60 : Int64) (fun r_1 => ((r_1 = 0 → Q (-1 : Int32) f st) ∧ (¬ r_1 = 0 → (wpX7_in (p3.toInt64) (0 : Int64) (1 : Int64) (fun r_3 => ((r_3 = 0 → Q (-1 : Int32) f st) ∧ (¬ r_3 = 0 → (((2 : Int32) ≤ (f 1) → (wpX7_copies st (0 : Int32) (168 : Int32) (fun st_7 => (∃ n : Nat, wpX7_drift_54 p1 p2 p3 Q  n (upd f 17 (0 : Int32)) st_7 p1 (0 : Int32))))) ∧ (¬ (2 : Int32) ≤ (f 1) → Q (-2 : Int32) f st))))))))))
set_option maxHeartbeats 4000000 in
theorem metX7_drift (l : Launch) (D : va_G) (kk : Nat → ClassId) (am : Nat → Nat) (sz : Nat) (f : Nat → Int32) (st : Nat → Int32) (p1 : Int32) (p2 : Int32) (p3 : Int32) (Q : Int32 → (Nat → Int32) → (Nat → Int32) → Prop) (h : wpX7_drift f st p1 p2 p3 Q) : Met l yX7_drift (ws_ yX7_drift cX7_drift 8 (some .int)) { frames := 4, cells := 0, slots := 0, locals := 99 } (va_Pc ([.ref (am 0), .int p1, .int p2, .int p3] : List Value) (zPc D kk [zM am f, zA (kk 1) (am 1) 252 st] sz)) (va_Qi (fun (r : Int32) (u : (Nat → Int32) × (Nat → Int32)) => Q r u.1 u.2) (zB D (va_A [zM am f, zA (kk 1) (am 1) 252 st] sz) (fun u : (Nat → Int32) × (Nat → Int32) => [zM am u.1, zA (kk 1) (am 1) 252 u.2])) (va_A [zM am f, zA (kk 1) (am 1) 252 st] sz)) 0 0 (va_A [zM am f, zA (kk 1) (am 1) 252 st] sz) := by
  refine zMet (Qc := fun A => va_Qi (fun (r : Int32) (u : (Nat → Int32) × (Nat → Int32)) => Q r u.1 u.2) (zB D A (fun u : (Nat → Int32) × (Nat → Int32) => [zM am u.1, zA (kk 1) (am 1) 252 u.2])) A) (by decide) (Nat.le_of_ble_eq_true rfl) ?_
  intro p e s m below meth c A X hP hD hS ls hl
  obtain ⟨hx, hb, hr, hml, hown, hts, hlk, hnm, hK, hN, hA⟩ := X
  have hown : s.vm.findClass "LoseLeagueModel" = some m.cls := hown
  have hl : lv_has ls 8 [(0, .ref (am 0)), (1, .int p1), (2, .int p2), (3, .int p3)] := hl
  unfold wpX7_drift at h
  refine lv_iload_n hx hb dX7_drift_0 rfl (lv_at hl 2 rfl) ?_
  refine lv_i2l hx hb dX7_drift_1 rfl ?_
  refine lv_lconst (v := (1 : Int64)) hx hb dX7_drift_2 (by decide) ?_
  refine lv_ldc2 (v := (60 : Int64)) hx hb hown (hts _ q1184) dX7_drift_3 ?_
  refine zc_i (wc := []) (wr := [zM am f, zA (kk 1) (am 1) 252 st]) (w1 := (fun u : Unit => [])) (rest := []) [] [0, 1] rfl rfl (by decide) (by decide) (by decide) hA hP hD hS (fun hP hD => va_runS (As := [.long (p2.toInt64), .long (1 : Int64), .long (60 : Int64)]) (rest := []) ⟨hx, hb, hml, hown, hts⟩ (metX7_in l D kk _ (p2.toInt64) (1 : Int64) (60 : Int64) _ h) (va_cwS 3 hts (lw_S q1033 q1034 q71 q1035) rfl rfl rfl pdX7_in.2 ⟨(Nat.le_of_ble_eq_true rfl), (Nat.le_of_ble_eq_true rfl)⟩) (zp_S hK hN hP hD) rfl rfl hl.1 rfl (lv_room (Nat.le_of_ble_eq_true rfl)) dX7_drift_6 ⟨(Nat.le_of_ble_eq_true rfl), (Nat.le_of_ble_eq_true rfl)⟩) (fun r_1 u H locs h hP hD hS => ?_)
  try dsimp only at h
  have hP : va_P D vwCl [zM am f, zA (kk 1) (am 1) 252 st] H := hP
  have hD : va_D A [zM am f, zA (kk 1) (am 1) 252 st] := hD
  refine lv_if_eq (tgt := 22) hx hb dX7_drift_9 (by decide) (fun c_2 => ?_) (fun c_2 => ?_)
  · have h := h.1 c_2
    refine lv_iconst (v := (-1 : Int32)) hx hb dX7_drift_22 (by decide) ?_
    exact zr_i hx hb hr hlk rfl hP hD hS (f, st) [0, 1] rfl (by decide) dX7_drift_23 h
  · have h := h.2 c_2
    refine lv_iload_n hx hb dX7_drift_12 rfl (lv_at hl 3 rfl) ?_
    refine lv_i2l hx hb dX7_drift_13 rfl ?_
    refine lv_lconst (v := (0 : Int64)) hx hb dX7_drift_14 (by decide) ?_
    refine lv_lconst (v := (1 : Int64)) hx hb dX7_drift_15 (by decide) ?_
    refine zc_i (wc := []) (wr := [zM am f, zA (kk 1) (am 1) 252 st]) (w1 := (fun u : Unit => [])) (rest := []) [] [0, 1] rfl rfl (by decide) (by decide) (by decide) hA hP hD hS (fun hP hD => va_runS (As := [.long (p3.toInt64), .long (0 : Int64), .long (1 : Int64)]) (rest := []) ⟨hx, hb, hml, hown, hts⟩ (metX7_in l D kk _ (p3.toInt64) (0 : Int64) (1 : Int64) _ h) (va_cwS 3 hts (lw_S q1033 q1034 q71 q1035) rfl rfl rfl pdX7_in.2 ⟨(Nat.le_of_ble_eq_true rfl), (Nat.le_of_ble_eq_true rfl)⟩) (zp_S hK hN hP hD) rfl rfl hl.1 rfl (lv_room (Nat.le_of_ble_eq_true rfl)) dX7_drift_16 ⟨(Nat.le_of_ble_eq_true rfl), (Nat.le_of_ble_eq_true rfl)⟩) (fun r_3 u H locs h hP hD hS => ?_)
    try dsimp only at h
    have hP : va_P D vwCl [zM am f, zA (kk 1) (am 1) 252 st] H := hP
    have hD : va_D A [zM am f, zA (kk 1) (am 1) 252 st] := hD
    refine lv_if_ne (tgt := 24) hx hb dX7_drift_19 (by decide) (fun c_4 => ?_) (fun c_4 => ?_)
    · have h := h.2 c_4
      refine lv_aload_n hx hb dX7_drift_24 rfl (lv_at hl 0 rfl) ?_
      refine va_get (D := D) (ci := 7) (v := .int (f 1)) (C := RX7) (T := TX7) (N := 29) hx hb hts in_X7 hown hK hP 0 rfl rfl 1 (Nat.le_of_ble_eq_true rfl) (hts _ q940) (fun _ h9 => h9) rfl dX7_drift_25 ?_
      refine lv_iconst (v := (2 : Int32)) hx hb dX7_drift_28 (by decide) ?_
      refine lv_icmp_ge (tgt := 35) hx hb dX7_drift_29 (by decide) (fun c_5 => ?_) (fun c_5 => ?_)
      · have h := h.1 c_5
        refine lv_aload_n hx hb dX7_drift_35 rfl (lv_at hl 0 rfl) ?_
        refine lv_iconst (v := (0 : Int32)) hx hb dX7_drift_36 (by decide) ?_
        refine lv_sipush (v := (168 : Int32)) hx hb dX7_drift_37 (by decide) ?_
        have hrc := va_recv hK hP (ci := 7) (q0 := 0) rfl rfl
        refine zc_v (wc := [zM am f, zA (kk 1) (am 1) 252 st]) (wr := []) (w1 := (fun u : (Nat → Int32) => [zM am f, zA (kk 1) (am 1) 252 u])) (rest := []) [0, 1] [] rfl rfl (by decide) (by decide) (by decide) hA hP hD hS (fun hP hD => va_runV (As := [.int (0 : Int32), .int (168 : Int32)]) (rest := []) ⟨hx, hb, hml, hown, hts⟩ (metX7_copies l D kk am _ f st (0 : Int32) (168 : Int32) _ h) (cwV 2 hts (lw_V q1189 q1191 qs57 q71 q1192) rfl rfl rfl pdX7_copies ⟨(Nat.le_of_ble_eq_true rfl), (Nat.le_of_ble_eq_true rfl)⟩) (zp_V hK hN hrc hP hD) rfl rfl hl.1 rfl (lv_room (Nat.le_of_ble_eq_true rfl)) dX7_drift_40 ⟨(Nat.le_of_ble_eq_true rfl), (Nat.le_of_ble_eq_true rfl)⟩) (fun u H locs h hP hD hS => ?_)
        obtain ⟨st_7, rfl⟩ : ∃ z, z = u := ⟨_, rfl⟩
        try dsimp only at h
        have hP : va_P D vwCl [zM am f, zA (kk 1) (am 1) 252 st_7] H := hP
        have hD : va_D A [zM am f, zA (kk 1) (am 1) 252 st_7] := hD
        refine lv_aload_n hx hb dX7_drift_43 rfl (lv_at hl 0 rfl) ?_
        refine lv_iconst (v := (0 : Int32)) hx hb dX7_drift_44 (by decide) ?_
        refine va_put (D := D) (ci := 7) (v := .int (0 : Int32)) (C := RX7) (T := TX7) (N := 29) hx hb hts in_X7 tyX7 tyX7_ok nmX7 hown hK hP hD hS 0 rfl rfl 17 (Nat.le_of_ble_eq_true rfl) (hts _ q956) (fun _ h9 => h9) rfl (tyX7_ok 17 (Nat.le_of_ble_eq_true rfl)) rfl rfl (Nat.le_of_ble_eq_true rfl) dX7_drift_45 (fun H locs hP hD hS => ?_)
        have hP : va_P D vwCl [zM am (upd f 17 (0 : Int32)), zA (kk 1) (am 1) 252 st_7] H := hP
        have hD : va_D A [zM am (upd f 17 (0 : Int32)), zA (kk 1) (am 1) 252 st_7] := hD
        refine lv_iload_n hx hb dX7_drift_48 rfl (lv_at hl 1 rfl) ?_
        refine lv_istore (lv' := [(4, .int p1), (0, .ref (am 0)), (1, .int p1), (2, .int p2), (3, .int p3)]) hx hb dX7_drift_49 hl (by decide) rfl (fun ls hl => ?_)
        refine lv_iconst (v := (0 : Int32)) hx hb dX7_drift_51 (by decide) ?_
        have cut_54 : ∀ (nl54 : Nat) (f : Nat → Int32) (st : Nat → Int32) (x4 : Int32) (x5 : Int32), wpX7_drift_54 p1 p2 p3 Q  nl54 f st x4 x5 → ∀ (H : Heap) (locs : List Loc), va_P D vwCl [zM am f, zA (kk 1) (am 1) 252 st] H → va_D A [zM am f, zA (kk 1) (am 1) 252 st] → va_S A s.heap H locs → ∀ ls : Array Slot, lv_has ls 8 [(4, .int x4), (5, .int x5), (0, .ref (am 0)), (2, .int p2), (3, .int p3)] → W p l e { frames := 4, cells := 0, slots := 0, locals := 99 } s m ([.ref (am 0), .int p1, .int p2, .int p3] : List Value).toArray below meth c H locs 0 0 (MQ below (va_Qi (fun (r : Int32) (u : (Nat → Int32) × (Nat → Int32)) => Q r u.1 u.2) (zB D A (fun u : (Nat → Int32) × (Nat → Int32) => [zM am u.1, zA (kk 1) (am 1) 252 u.2])) A) ([.ref (am 0), .int p1, .int p2, .int p3] : List Value).toArray s 0 0 A) (F0 m 54 ls []) := by
          intro nl54
          induction nl54 with
          | zero => intro f st x4 x5 h; exact absurd h id
          | succ nl54 ih_54 =>
            intro f st x4 x5 h H locs hP hD hS ls hl
            have h : wbX7_drift_54 p1 p2 p3 Q  (wpX7_drift_54 p1 p2 p3 Q  nl54) f st x4 x5 := h
            unfold wbX7_drift_54 at h
            refine lv_iload hx hb dX7_drift_54 (lv_at hl 1 rfl) ?_
            refine lv_iload_n hx hb dX7_drift_56 rfl (lv_at hl 3 rfl) ?_
            refine lv_icmp_ge (tgt := 136) hx hb dX7_drift_57 (by decide) (fun c_8 => ?_) (fun c_8 => ?_)
            · have h := h.1 c_8
              refine lv_iload_n hx hb dX7_drift_136 rfl (lv_at hl 4 rfl) ?_
              refine lv_if_ne (tgt := 150) hx hb dX7_drift_137 (by decide) (fun c_9 => ?_) (fun c_9 => ?_)
              · have h := h.2 c_9
                refine lv_aload_n hx hb dX7_drift_150 rfl (lv_at hl 2 rfl) ?_
                refine va_get (D := D) (ci := 7) (v := .int (f 17)) (C := RX7) (T := TX7) (N := 29) hx hb hts in_X7 hown hK hP 0 rfl rfl 17 (Nat.le_of_ble_eq_true rfl) (hts _ q956) (fun _ h9 => h9) rfl dX7_drift_151 ?_
                exact zr_i hx hb hr hlk rfl hP hD hS (f, st) [0, 1] rfl (by decide) dX7_drift_154 h
              · have h := h.1 c_9
                refine lv_aload_n hx hb dX7_drift_140 rfl (lv_at hl 2 rfl) ?_
                refine lv_sipush (v := (168 : Int32)) hx hb dX7_drift_141 (by decide) ?_
                have hrc := va_recv hK hP (ci := 7) (q0 := 0) rfl rfl
                refine zc_i (wc := [zM am f, zA (kk 1) (am 1) 252 st]) (wr := []) (w1 := (fun u : Unit => [zM am f, zA (kk 1) (am 1) 252 st])) (rest := []) [0, 1] [] rfl rfl (by decide) (by decide) (by decide) hA hP hD hS (fun hP hD => va_runV (As := [.int (168 : Int32)]) (rest := []) ⟨hx, hb, hml, hown, hts⟩ (metX7_owedOn l D kk am _ f st (168 : Int32) _ h) (cwV 1 hts (lw_V q1097 q1099 qs44 q71 q1100) rfl rfl rfl pdX7_owedOn ⟨(Nat.le_of_ble_eq_true rfl), (Nat.le_of_ble_eq_true rfl)⟩) (zp_V hK hN hrc hP hD) rfl rfl hl.1 rfl (lv_room (Nat.le_of_ble_eq_true rfl)) dX7_drift_144 ⟨(Nat.le_of_ble_eq_true rfl), (Nat.le_of_ble_eq_true rfl)⟩) (fun r_10 u H locs h hP hD hS => ?_)
                try dsimp only at h
                have hP : va_P D vwCl [zM am f, zA (kk 1) (am 1) 252 st] H := hP
                have hD : va_D A [zM am f, zA (kk 1) (am 1) 252 st] := hD
                refine lv_goto (tgt := 154) hx hb dX7_drift_147 (by decide) ?_
                exact zr_i hx hb hr hlk rfl hP hD hS (f, st) [0, 1] rfl (by decide) dX7_drift_154 h
            · have h := h.2 c_8
              refine lv_iload hx hb dX7_drift_60 (lv_at hl 0 rfl) ?_
              refine lv_ldc (v := (1103515245 : Int32)) hx hb hown (hts _ q1290) dX7_drift_62 ?_
              refine lv_imul hx hb dX7_drift_64 ?_
              refine lv_sipush (v := (12345 : Int32)) hx hb dX7_drift_65 (by decide) ?_
              refine lv_iadd hx hb dX7_drift_68 ?_
              refine lv_topi (fun x4_11 ex4_11 => ?_)
              have h := h x4_11 ex4_11
              refine lv_istore (lv' := [(4, .int x4_11), (5, .int x5), (0, .ref (am 0)), (2, .int p2), (3, .int p3)]) hx hb dX7_drift_69 hl (by decide) rfl (fun ls hl => ?_)
              refine lv_iload hx hb dX7_drift_71 (lv_at hl 0 rfl) ?_
              refine lv_bipush (v := (16 : Int32)) hx hb dX7_drift_73 (by decide) ?_
              refine lv_ishr hx hb dX7_drift_75 ?_
              refine lv_sipush (v := (32767 : Int32)) hx hb dX7_drift_76 (by decide) ?_
              refine lv_iand hx hb dX7_drift_79 ?_
              refine lv_topi (fun x6_12 ex6_12 => ?_)
              have h := h x6_12 ex6_12
              refine lv_istore (lv' := [(6, .int x6_12), (4, .int x4_11), (5, .int x5), (0, .ref (am 0)), (2, .int p2), (3, .int p3)]) hx hb dX7_drift_80 hl (by decide) rfl (fun ls hl => ?_)
              refine lv_iload hx hb dX7_drift_82 (lv_at hl 0 rfl) ?_
              refine lv_aload_n hx hb dX7_drift_84 rfl (lv_at hl 3 rfl) ?_
              refine va_get (D := D) (ci := 7) (v := .int (f 1)) (C := RX7) (T := TX7) (N := 29) hx hb hts in_X7 hown hK hP 0 rfl rfl 1 (Nat.le_of_ble_eq_true rfl) (hts _ q940) (fun _ h9 => h9) rfl dX7_drift_85 ?_
              obtain ⟨hne, h⟩ := h
              refine lv_irem hx hb dX7_drift_88 hne ?_
              refine lv_topi (fun x7_13 ex7_13 => ?_)
              have h := h x7_13 ex7_13
              refine lv_istore (lv' := [(7, .int x7_13), (6, .int x6_12), (4, .int x4_11), (5, .int x5), (0, .ref (am 0)), (2, .int p2), (3, .int p3)]) hx hb dX7_drift_89 hl (by decide) rfl (fun ls hl => ?_)
              refine lv_aload_n hx hb dX7_drift_91 rfl (lv_at hl 4 rfl) ?_
              refine lv_sipush (v := (168 : Int32)) hx hb dX7_drift_92 (by decide) ?_
              refine lv_iload hx hb dX7_drift_95 (lv_at hl 0 rfl) ?_
              refine lv_iload hx hb dX7_drift_97 (lv_at hl 0 rfl) ?_
              refine lv_iconst (v := (1 : Int32)) hx hb dX7_drift_99 (by decide) ?_
              refine lv_iadd hx hb dX7_drift_100 ?_
              refine lv_iload hx hb dX7_drift_101 (lv_at hl 1 rfl) ?_
              refine lv_bipush (v := (8 : Int32)) hx hb dX7_drift_103 (by decide) ?_
              refine lv_idiv hx hb dX7_drift_105 (by decide) ?_
              refine lv_aload_n hx hb dX7_drift_106 rfl (lv_at hl 4 rfl) ?_
              refine va_get (D := D) (ci := 7) (v := .int (f 1)) (C := RX7) (T := TX7) (N := 29) hx hb hts in_X7 hown hK hP 0 rfl rfl 1 (Nat.le_of_ble_eq_true rfl) (hts _ q940) (fun _ h9 => h9) rfl dX7_drift_107 ?_
              refine lv_iconst (v := (1 : Int32)) hx hb dX7_drift_110 (by decide) ?_
              refine lv_isub hx hb dX7_drift_111 ?_
              obtain ⟨hne, h⟩ := h
              refine lv_irem hx hb dX7_drift_112 hne ?_
              refine lv_iadd hx hb dX7_drift_113 ?_
              refine lv_aload_n hx hb dX7_drift_114 rfl (lv_at hl 4 rfl) ?_
              refine va_get (D := D) (ci := 7) (v := .int (f 1)) (C := RX7) (T := TX7) (N := 29) hx hb hts in_X7 hown hK hP 0 rfl rfl 1 (Nat.le_of_ble_eq_true rfl) (hts _ q940) (fun _ h9 => h9) rfl dX7_drift_115 ?_
              obtain ⟨hne, h⟩ := h
              refine lv_irem hx hb dX7_drift_118 hne ?_
              have hrc := va_recv hK hP (ci := 7) (q0 := 0) rfl rfl
              refine zc_v (wc := [zM am f, zA (kk 1) (am 1) 252 st]) (wr := []) (w1 := (fun u : (Nat → Int32) × (Nat → Int32) => [zM am u.1, zA (kk 1) (am 1) 252 u.2])) (rest := []) [0, 1] [] rfl rfl (by decide) (by decide) (by decide) hA hP hD hS (fun hP hD => va_runV (As := [.int (168 : Int32), .int x7_13, .int (((x7_13 + (1 : Int32)) + ((x6_12 / (8 : Int32)) - (x6_12 / (8 : Int32)) / ((f 1) - (1 : Int32)) * ((f 1) - (1 : Int32)))) - ((x7_13 + (1 : Int32)) + ((x6_12 / (8 : Int32)) - (x6_12 / (8 : Int32)) / ((f 1) - (1 : Int32)) * ((f 1) - (1 : Int32)))) / (f 1) * (f 1))]) (rest := []) ⟨hx, hb, hml, hown, hts⟩ (metX7_playedOn l D kk am _ f st (168 : Int32) x7_13 (((x7_13 + (1 : Int32)) + ((x6_12 / (8 : Int32)) - (x6_12 / (8 : Int32)) / ((f 1) - (1 : Int32)) * ((f 1) - (1 : Int32)))) - ((x7_13 + (1 : Int32)) + ((x6_12 / (8 : Int32)) - (x6_12 / (8 : Int32)) / ((f 1) - (1 : Int32)) * ((f 1) - (1 : Int32)))) / (f 1) * (f 1)) _ h) (cwV 3 hts (lw_V q1172 q1174 qs54 q71 q1175) rfl rfl rfl pdX7_playedOn ⟨(Nat.le_of_ble_eq_true rfl), (Nat.le_of_ble_eq_true rfl)⟩) (zp_V hK hN hrc hP hD) rfl rfl hl.1 rfl (lv_room (Nat.le_of_ble_eq_true rfl)) dX7_drift_119 ⟨(Nat.le_of_ble_eq_true rfl), (Nat.le_of_ble_eq_true rfl)⟩) (fun u H locs h hP hD hS => ?_)
              obtain ⟨f_15, st_16⟩ := u
              try dsimp only at h
              have hP : va_P D vwCl [zM am f_15, zA (kk 1) (am 1) 252 st_16] H := hP
              have hD : va_D A [zM am f_15, zA (kk 1) (am 1) 252 st_16] := hD
              refine lv_aload_n hx hb dX7_drift_122 rfl (lv_at hl 4 rfl) ?_
              refine lv_sipush (v := (168 : Int32)) hx hb dX7_drift_123 (by decide) ?_
              refine lv_iconst (v := (1 : Int32)) hx hb dX7_drift_126 (by decide) ?_
              have hrc := va_recv hK hP (ci := 7) (q0 := 0) rfl rfl
              refine zc_v (wc := [zM am f_15, zA (kk 1) (am 1) 252 st_16]) (wr := []) (w1 := (fun u : (Nat → Int32) × (Nat → Int32) => [zM am u.1, zA (kk 1) (am 1) 252 u.2])) (rest := []) [0, 1] [] rfl rfl (by decide) (by decide) (by decide) hA hP hD hS (fun hP hD => va_runV (As := [.int (168 : Int32), .int (1 : Int32)]) (rest := []) ⟨hx, hb, hml, hown, hts⟩ (metX7_weekOn l D kk am _ f_15 st_16 (168 : Int32) (1 : Int32) _ h) (cwV 2 hts (lw_V q1168 q1170 qs53 q71 q1171) rfl rfl rfl pdX7_weekOn ⟨(Nat.le_of_ble_eq_true rfl), (Nat.le_of_ble_eq_true rfl)⟩) (zp_V hK hN hrc hP hD) rfl rfl hl.1 rfl (lv_room (Nat.le_of_ble_eq_true rfl)) dX7_drift_127 ⟨(Nat.le_of_ble_eq_true rfl), (Nat.le_of_ble_eq_true rfl)⟩) (fun u H locs h hP hD hS => ?_)
              obtain ⟨f_18, st_19⟩ := u
              try dsimp only at h
              have hP : va_P D vwCl [zM am f_18, zA (kk 1) (am 1) 252 st_19] H := hP
              have hD : va_D A [zM am f_18, zA (kk 1) (am 1) 252 st_19] := hD
              refine lv_iinc (v := (x5 + 1)) (lv' := [(5, .int (x5 + 1)), (7, .int x7_13), (6, .int x6_12), (4, .int x4_11), (0, .ref (am 0)), (2, .int p2), (3, .int p3)]) hx hb dX7_drift_130 hl (k := 3) rfl rfl (by decide) rfl (fun ls hl => ?_)
              refine lv_goto (tgt := 54) hx hb dX7_drift_133 (by decide) ?_
              exact ih_54 f_18 st_19 x4_11 (x5 + 1) h _ _ hP hD hS _ (lv_sub hl [3, 0, 4, 5, 6] rfl)
        refine lv_istore (lv' := [(5, .int (0 : Int32)), (4, .int p1), (0, .ref (am 0)), (1, .int p1), (2, .int p2), (3, .int p3)]) hx hb dX7_drift_52 hl (by decide) rfl (fun ls hl => ?_)
        obtain ⟨n_54, h⟩ := h
        exact cut_54 n_54 (upd f 17 (0 : Int32)) st_7 p1 (0 : Int32) h _ _ hP hD hS _ (lv_sub hl [1, 0, 2, 4, 5] rfl)
      · have h := h.2 c_5
        refine lv_bipush (v := (-2 : Int32)) hx hb dX7_drift_32 (by decide) ?_
        exact zr_i hx hb hr hlk rfl hP hD hS (f, st) [0, 1] rfl (by decide) dX7_drift_34 h
    · have h := h.1 c_4
      refine lv_iconst (v := (-1 : Int32)) hx hb dX7_drift_22 (by decide) ?_
      exact zr_i hx hb hr hlk rfl hP hD hS (f, st) [0, 1] rfl (by decide) dX7_drift_23 h
def wpX7_keep_37 (p1 : Int32) (Q : Int32 → (Nat → Int32) → (Nat → Int32) → Prop) (st : Nat → Int32) (ik : Nat → Int32) (s0 : Int32) : Prop :=
  (vp_in p1 2 ∧ Q s0 st (upd ik p1.toNatClampNeg (vp_nar .boolean (1 : Int32))))
def wpX7_keep (st : Nat → Int32) (ik : Nat → Int32) (p1 : Int32) (Q : Int32 → (Nat → Int32) → (Nat → Int32) → Prop) : Prop :=
  (wpX7_in (p1.toInt64) (0 : Int64) (1 : Int64) (fun r_1 => ((r_1 = 0 → Q (-1 : Int32) st ik) ∧ (¬ r_1 = 0 → (wpX7_copies st (0 : Int32) ((42 : Int32) * (p1 + (1 : Int32))) (fun st_4 => (vp_in p1 2 ∧ (((ik p1.toNatClampNeg) = 0 → wpX7_keep_37 p1 Q  st_4 ik (0 : Int32)) ∧ (¬ (ik p1.toNatClampNeg) = 0 → wpX7_keep_37 p1 Q  st_4 ik (1 : Int32))))))))))
set_option maxHeartbeats 4000000 in
theorem metX7_keep (l : Launch) (D : va_G) (kk : Nat → ClassId) (am : Nat → Nat) (sz : Nat) (f : Nat → Int32) (st : Nat → Int32) (ik : Nat → Int32) (p1 : Int32) (Q : Int32 → (Nat → Int32) → (Nat → Int32) → Prop) (h : wpX7_keep st ik p1 Q) : Met l yX7_keep (ws_ yX7_keep cX7_keep 3 (some .int)) { frames := 1, cells := 0, slots := 0, locals := 25 } (va_Pc ([.ref (am 0), .int p1] : List Value) (zPc D kk [zM am f, zA (kk 1) (am 1) 252 st, zA (kk 2) (am 9) 2 ik] sz)) (va_Qi (fun (r : Int32) (u : (Nat → Int32) × (Nat → Int32)) => Q r u.1 u.2) (zB D (va_A [zM am f, zA (kk 1) (am 1) 252 st, zA (kk 2) (am 9) 2 ik] sz) (fun u : (Nat → Int32) × (Nat → Int32) => [zM am f, zA (kk 1) (am 1) 252 u.1, zA (kk 2) (am 9) 2 u.2])) (va_A [zM am f, zA (kk 1) (am 1) 252 st, zA (kk 2) (am 9) 2 ik] sz)) 0 0 (va_A [zM am f, zA (kk 1) (am 1) 252 st, zA (kk 2) (am 9) 2 ik] sz) := by
  refine zMet (Qc := fun A => va_Qi (fun (r : Int32) (u : (Nat → Int32) × (Nat → Int32)) => Q r u.1 u.2) (zB D A (fun u : (Nat → Int32) × (Nat → Int32) => [zM am f, zA (kk 1) (am 1) 252 u.1, zA (kk 2) (am 9) 2 u.2])) A) (by decide) (Nat.le_of_ble_eq_true rfl) ?_
  intro p e s m below meth c A X hP hD hS ls hl
  obtain ⟨hx, hb, hr, hml, hown, hts, hlk, hnm, hK, hN, hA⟩ := X
  have hown : s.vm.findClass "LoseLeagueModel" = some m.cls := hown
  have hl : lv_has ls 3 [(0, .ref (am 0)), (1, .int p1)] := hl
  unfold wpX7_keep at h
  refine lv_iload_n hx hb dX7_keep_0 rfl (lv_at hl 1 rfl) ?_
  refine lv_i2l hx hb dX7_keep_1 rfl ?_
  refine lv_lconst (v := (0 : Int64)) hx hb dX7_keep_2 (by decide) ?_
  refine lv_lconst (v := (1 : Int64)) hx hb dX7_keep_3 (by decide) ?_
  refine zc_i (wc := []) (wr := [zM am f, zA (kk 1) (am 1) 252 st, zA (kk 2) (am 9) 2 ik]) (w1 := (fun u : Unit => [])) (rest := []) [] [0, 1, 2] rfl rfl (by decide) (by decide) (by decide) hA hP hD hS (fun hP hD => va_runS (As := [.long (p1.toInt64), .long (0 : Int64), .long (1 : Int64)]) (rest := []) ⟨hx, hb, hml, hown, hts⟩ (metX7_in l D kk _ (p1.toInt64) (0 : Int64) (1 : Int64) _ h) (va_cwS 3 hts (lw_S q1033 q1034 q71 q1035) rfl rfl rfl pdX7_in.2 ⟨(Nat.le_of_ble_eq_true rfl), (Nat.le_of_ble_eq_true rfl)⟩) (zp_S hK hN hP hD) rfl rfl hl.1 rfl (lv_room (Nat.le_of_ble_eq_true rfl)) dX7_keep_4 ⟨(Nat.le_of_ble_eq_true rfl), (Nat.le_of_ble_eq_true rfl)⟩) (fun r_1 u H locs h hP hD hS => ?_)
  try dsimp only at h
  have hP : va_P D vwCl [zM am f, zA (kk 1) (am 1) 252 st, zA (kk 2) (am 9) 2 ik] H := hP
  have hD : va_D A [zM am f, zA (kk 1) (am 1) 252 st, zA (kk 2) (am 9) 2 ik] := hD
  refine lv_if_ne (tgt := 12) hx hb dX7_keep_7 (by decide) (fun c_2 => ?_) (fun c_2 => ?_)
  · have h := h.2 c_2
    refine lv_aload_n hx hb dX7_keep_12 rfl (lv_at hl 0 rfl) ?_
    refine lv_iconst (v := (0 : Int32)) hx hb dX7_keep_13 (by decide) ?_
    refine lv_bipush (v := (42 : Int32)) hx hb dX7_keep_14 (by decide) ?_
    refine lv_iload_n hx hb dX7_keep_16 rfl (lv_at hl 1 rfl) ?_
    refine lv_iconst (v := (1 : Int32)) hx hb dX7_keep_17 (by decide) ?_
    refine lv_iadd hx hb dX7_keep_18 ?_
    refine lv_imul hx hb dX7_keep_19 ?_
    have hrc := va_recv hK hP (ci := 7) (q0 := 0) rfl rfl
    refine zc_v (wc := [zM am f, zA (kk 1) (am 1) 252 st]) (wr := [zA (kk 2) (am 9) 2 ik]) (w1 := (fun u : (Nat → Int32) => [zM am f, zA (kk 1) (am 1) 252 u])) (rest := []) [0, 1] [2] rfl rfl (by decide) (by decide) (by decide) hA hP hD hS (fun hP hD => va_runV (As := [.int (0 : Int32), .int ((42 : Int32) * (p1 + (1 : Int32)))]) (rest := []) ⟨hx, hb, hml, hown, hts⟩ (metX7_copies l D kk am _ f st (0 : Int32) ((42 : Int32) * (p1 + (1 : Int32))) _ h) (cwV 2 hts (lw_V q1189 q1191 qs57 q71 q1192) rfl rfl rfl pdX7_copies ⟨(Nat.le_of_ble_eq_true rfl), (Nat.le_of_ble_eq_true rfl)⟩) (zp_V hK hN hrc hP hD) rfl rfl hl.1 rfl (lv_room (Nat.le_of_ble_eq_true rfl)) dX7_keep_20 ⟨(Nat.le_of_ble_eq_true rfl), (Nat.le_of_ble_eq_true rfl)⟩) (fun u H locs h hP hD hS => ?_)
    obtain ⟨st_4, rfl⟩ : ∃ z, z = u := ⟨_, rfl⟩
    try dsimp only at h
    have hP : va_P D vwCl [zA (kk 2) (am 9) 2 ik, zM am f, zA (kk 1) (am 1) 252 st_4] H := hP
    have hD : va_D A [zA (kk 2) (am 9) 2 ik, zM am f, zA (kk 1) (am 1) 252 st_4] := hD
    refine lv_aload_n hx hb dX7_keep_23 rfl (lv_at hl 0 rfl) ?_
    refine va_get (D := D) (ci := 7) (v := .ref (am 9)) (C := RX7) (T := TX7) (N := 29) hx hb hts in_X7 hown hK hP 1 rfl rfl 24 (Nat.le_of_ble_eq_true rfl) (hts _ q963) (fun _ h9 => h9) rfl dX7_keep_24 ?_
    refine lv_iload_n hx hb dX7_keep_27 rfl (lv_at hl 1 rfl) ?_
    obtain ⟨hin, h⟩ := h
    refine va_zald hx hb hK hP 0 2 rfl rfl hin dX7_keep_28 ?_
    have cut_37 : ∀ (st : Nat → Int32) (ik : Nat → Int32) (s0 : Int32), wpX7_keep_37 p1 Q  st ik s0 → ∀ (H : Heap) (locs : List Loc), va_P D vwCl [zM am f, zA (kk 1) (am 1) 252 st, zA (kk 2) (am 9) 2 ik] H → va_D A [zM am f, zA (kk 1) (am 1) 252 st, zA (kk 2) (am 9) 2 ik] → va_S A s.heap H locs → ∀ ls : Array Slot, lv_has ls 3 [(0, .ref (am 0)), (1, .int p1)] → W p l e { frames := 1, cells := 0, slots := 0, locals := 25 } s m ([.ref (am 0), .int p1] : List Value).toArray below meth c H locs 0 0 (MQ below (va_Qi (fun (r : Int32) (u : (Nat → Int32) × (Nat → Int32)) => Q r u.1 u.2) (zB D A (fun u : (Nat → Int32) × (Nat → Int32) => [zM am f, zA (kk 1) (am 1) 252 u.1, zA (kk 2) (am 9) 2 u.2])) A) ([.ref (am 0), .int p1] : List Value).toArray s 0 0 A) (F0 m 37 ls [.int s0]) := by
      intro st ik s0 h H locs hP hD hS ls hl
      unfold wpX7_keep_37 at h
      refine lv_istore_n (lv' := [(2, .int s0), (0, .ref (am 0)), (1, .int p1)]) hx hb dX7_keep_37 rfl hl (by decide) rfl (fun ls hl => ?_)
      refine lv_aload_n hx hb dX7_keep_38 rfl (lv_at hl 1 rfl) ?_
      refine va_get (D := D) (ci := 7) (v := .ref (am 9)) (C := RX7) (T := TX7) (N := 29) hx hb hts in_X7 hown hK hP 0 rfl rfl 24 (Nat.le_of_ble_eq_true rfl) (hts _ q963) (fun _ h9 => h9) rfl dX7_keep_39 ?_
      refine lv_iload_n hx hb dX7_keep_42 rfl (lv_at hl 2 rfl) ?_
      refine lv_iconst (v := (1 : Int32)) hx hb dX7_keep_43 (by decide) ?_
      obtain ⟨hin, h⟩ := h
      refine va_zast hx hb hK hP hD hS 2 2 rfl rfl hin dX7_keep_44 (fun H locs hP hD hS => ?_)
      have hP : va_P D vwCl [zM am f, zA (kk 1) (am 1) 252 st, zA (kk 2) (am 9) 2 (upd ik p1.toNatClampNeg (vp_nar .boolean (1 : Int32)))] H := hP
      have hD : va_D A [zM am f, zA (kk 1) (am 1) 252 st, zA (kk 2) (am 9) 2 (upd ik p1.toNatClampNeg (vp_nar .boolean (1 : Int32)))] := hD
      refine lv_iload_n hx hb dX7_keep_45 rfl (lv_at hl 0 rfl) ?_
      exact zr_i hx hb hr hlk rfl hP hD hS (st, (upd ik p1.toNatClampNeg (vp_nar .boolean (1 : Int32)))) [0, 1, 2] rfl (by decide) dX7_keep_46 h
    refine lv_if_eq (tgt := 36) hx hb dX7_keep_29 (by decide) (fun c_5 => ?_) (fun c_5 => ?_)
    · have h := h.1 c_5
      refine lv_iconst (v := (0 : Int32)) hx hb dX7_keep_36 (by decide) ?_
      exact cut_37 st_4 ik (0 : Int32) h _ _ (hP.sub [1, 2, 0] rfl) (hD.sub [1, 2, 0] (by decide) rfl) hS _ (lv_sub hl [0, 1] rfl)
    · have h := h.2 c_5
      refine lv_iconst (v := (1 : Int32)) hx hb dX7_keep_32 (by decide) ?_
      refine lv_goto (tgt := 37) hx hb dX7_keep_33 (by decide) ?_
      exact cut_37 st_4 ik (1 : Int32) h _ _ (hP.sub [1, 2, 0] rfl) (hD.sub [1, 2, 0] (by decide) rfl) hS _ (lv_sub hl [0, 1] rfl)
  · have h := h.1 c_2
    refine lv_iconst (v := (-1 : Int32)) hx hb dX7_keep_10 (by decide) ?_
    exact zr_i hx hb hr hlk rfl hP hD hS (st, ik) [0, 1, 2] rfl (by decide) dX7_keep_11 h
def wpX7_back (st : Nat → Int32) (ik : Nat → Int32) (p1 : Int32) (Q : Int32 → (Nat → Int32) → Prop) : Prop :=
  (wpX7_in (p1.toInt64) (0 : Int64) (1 : Int64) (fun r_1 => ((r_1 = 0 → Q (-1 : Int32) st) ∧ (¬ r_1 = 0 → (vp_in p1 2 ∧ (((ik p1.toNatClampNeg) = 0 → Q (-2 : Int32) st) ∧ (¬ (ik p1.toNatClampNeg) = 0 → (wpX7_copies st ((42 : Int32) * (p1 + (1 : Int32))) (0 : Int32) (fun st_5 => Q (st_5 (41 : Int32).toNatClampNeg) st_5)))))))))
set_option maxHeartbeats 4000000 in
theorem metX7_back (l : Launch) (D : va_G) (kk : Nat → ClassId) (am : Nat → Nat) (sz : Nat) (f : Nat → Int32) (st : Nat → Int32) (ik : Nat → Int32) (p1 : Int32) (Q : Int32 → (Nat → Int32) → Prop) (h : wpX7_back st ik p1 Q) : Met l yX7_back (ws_ yX7_back cX7_back 2 (some .int)) { frames := 1, cells := 0, slots := 0, locals := 25 } (va_Pc ([.ref (am 0), .int p1] : List Value) (zPc D kk [zM am f, zA (kk 1) (am 1) 252 st, zA (kk 2) (am 9) 2 ik] sz)) (va_Qi (fun (r : Int32) (u : (Nat → Int32)) => Q r u) (zB D (va_A [zM am f, zA (kk 1) (am 1) 252 st, zA (kk 2) (am 9) 2 ik] sz) (fun u : (Nat → Int32) => [zM am f, zA (kk 1) (am 1) 252 u, zA (kk 2) (am 9) 2 ik])) (va_A [zM am f, zA (kk 1) (am 1) 252 st, zA (kk 2) (am 9) 2 ik] sz)) 0 0 (va_A [zM am f, zA (kk 1) (am 1) 252 st, zA (kk 2) (am 9) 2 ik] sz) := by
  refine zMet (Qc := fun A => va_Qi (fun (r : Int32) (u : (Nat → Int32)) => Q r u) (zB D A (fun u : (Nat → Int32) => [zM am f, zA (kk 1) (am 1) 252 u, zA (kk 2) (am 9) 2 ik])) A) (by decide) (Nat.le_of_ble_eq_true rfl) ?_
  intro p e s m below meth c A X hP hD hS ls hl
  obtain ⟨hx, hb, hr, hml, hown, hts, hlk, hnm, hK, hN, hA⟩ := X
  have hown : s.vm.findClass "LoseLeagueModel" = some m.cls := hown
  have hl : lv_has ls 2 [(0, .ref (am 0)), (1, .int p1)] := hl
  unfold wpX7_back at h
  refine lv_iload_n hx hb dX7_back_0 rfl (lv_at hl 1 rfl) ?_
  refine lv_i2l hx hb dX7_back_1 rfl ?_
  refine lv_lconst (v := (0 : Int64)) hx hb dX7_back_2 (by decide) ?_
  refine lv_lconst (v := (1 : Int64)) hx hb dX7_back_3 (by decide) ?_
  refine zc_i (wc := []) (wr := [zM am f, zA (kk 1) (am 1) 252 st, zA (kk 2) (am 9) 2 ik]) (w1 := (fun u : Unit => [])) (rest := []) [] [0, 1, 2] rfl rfl (by decide) (by decide) (by decide) hA hP hD hS (fun hP hD => va_runS (As := [.long (p1.toInt64), .long (0 : Int64), .long (1 : Int64)]) (rest := []) ⟨hx, hb, hml, hown, hts⟩ (metX7_in l D kk _ (p1.toInt64) (0 : Int64) (1 : Int64) _ h) (va_cwS 3 hts (lw_S q1033 q1034 q71 q1035) rfl rfl rfl pdX7_in.2 ⟨(Nat.le_of_ble_eq_true rfl), (Nat.le_of_ble_eq_true rfl)⟩) (zp_S hK hN hP hD) rfl rfl hl.1 rfl (lv_room (Nat.le_of_ble_eq_true rfl)) dX7_back_4 ⟨(Nat.le_of_ble_eq_true rfl), (Nat.le_of_ble_eq_true rfl)⟩) (fun r_1 u H locs h hP hD hS => ?_)
  try dsimp only at h
  have hP : va_P D vwCl [zM am f, zA (kk 1) (am 1) 252 st, zA (kk 2) (am 9) 2 ik] H := hP
  have hD : va_D A [zM am f, zA (kk 1) (am 1) 252 st, zA (kk 2) (am 9) 2 ik] := hD
  refine lv_if_ne (tgt := 12) hx hb dX7_back_7 (by decide) (fun c_2 => ?_) (fun c_2 => ?_)
  · have h := h.2 c_2
    refine lv_aload_n hx hb dX7_back_12 rfl (lv_at hl 0 rfl) ?_
    refine va_get (D := D) (ci := 7) (v := .ref (am 9)) (C := RX7) (T := TX7) (N := 29) hx hb hts in_X7 hown hK hP 0 rfl rfl 24 (Nat.le_of_ble_eq_true rfl) (hts _ q963) (fun _ h9 => h9) rfl dX7_back_13 ?_
    refine lv_iload_n hx hb dX7_back_16 rfl (lv_at hl 1 rfl) ?_
    obtain ⟨hin, h⟩ := h
    refine va_zald hx hb hK hP 2 2 rfl rfl hin dX7_back_17 ?_
    refine lv_if_ne (tgt := 24) hx hb dX7_back_18 (by decide) (fun c_3 => ?_) (fun c_3 => ?_)
    · have h := h.2 c_3
      refine lv_aload_n hx hb dX7_back_24 rfl (lv_at hl 0 rfl) ?_
      refine lv_bipush (v := (42 : Int32)) hx hb dX7_back_25 (by decide) ?_
      refine lv_iload_n hx hb dX7_back_27 rfl (lv_at hl 1 rfl) ?_
      refine lv_iconst (v := (1 : Int32)) hx hb dX7_back_28 (by decide) ?_
      refine lv_iadd hx hb dX7_back_29 ?_
      refine lv_imul hx hb dX7_back_30 ?_
      refine lv_iconst (v := (0 : Int32)) hx hb dX7_back_31 (by decide) ?_
      have hrc := va_recv hK hP (ci := 7) (q0 := 0) rfl rfl
      refine zc_v (wc := [zM am f, zA (kk 1) (am 1) 252 st]) (wr := [zA (kk 2) (am 9) 2 ik]) (w1 := (fun u : (Nat → Int32) => [zM am f, zA (kk 1) (am 1) 252 u])) (rest := []) [0, 1] [2] rfl rfl (by decide) (by decide) (by decide) hA hP hD hS (fun hP hD => va_runV (As := [.int ((42 : Int32) * (p1 + (1 : Int32))), .int (0 : Int32)]) (rest := []) ⟨hx, hb, hml, hown, hts⟩ (metX7_copies l D kk am _ f st ((42 : Int32) * (p1 + (1 : Int32))) (0 : Int32) _ h) (cwV 2 hts (lw_V q1189 q1191 qs57 q71 q1192) rfl rfl rfl pdX7_copies ⟨(Nat.le_of_ble_eq_true rfl), (Nat.le_of_ble_eq_true rfl)⟩) (zp_V hK hN hrc hP hD) rfl rfl hl.1 rfl (lv_room (Nat.le_of_ble_eq_true rfl)) dX7_back_32 ⟨(Nat.le_of_ble_eq_true rfl), (Nat.le_of_ble_eq_true rfl)⟩) (fun u H locs h hP hD hS => ?_)
      obtain ⟨st_5, rfl⟩ : ∃ z, z = u := ⟨_, rfl⟩
      try dsimp only at h
      have hP : va_P D vwCl [zA (kk 2) (am 9) 2 ik, zM am f, zA (kk 1) (am 1) 252 st_5] H := hP
      have hD : va_D A [zA (kk 2) (am 9) 2 ik, zM am f, zA (kk 1) (am 1) 252 st_5] := hD
      refine lv_aload_n hx hb dX7_back_35 rfl (lv_at hl 0 rfl) ?_
      refine va_get (D := D) (ci := 7) (v := .ref (am 1)) (C := RX7) (T := TX7) (N := 29) hx hb hts in_X7 hown hK hP 1 rfl rfl 0 (Nat.le_of_ble_eq_true rfl) (hts _ q939) (fun _ h9 => h9) rfl dX7_back_36 ?_
      refine lv_bipush (v := (41 : Int32)) hx hb dX7_back_39 (by decide) ?_
      refine va_iald hx hb hK hP 2 1 rfl rfl (by unfold vp_in; decide) dX7_back_41 ?_
      exact zr_i hx hb hr hlk rfl hP hD hS (st_5) [1, 2, 0] rfl (by decide) dX7_back_42 h
    · have h := h.1 c_3
      refine lv_bipush (v := (-2 : Int32)) hx hb dX7_back_21 (by decide) ?_
      exact zr_i hx hb hr hlk rfl hP hD hS (st) [0, 1, 2] rfl (by decide) dX7_back_23 h
  · have h := h.1 c_2
    refine lv_iconst (v := (-1 : Int32)) hx hb dX7_back_10 (by decide) ?_
    exact zr_i hx hb hr hlk rfl hP hD hS (st) [0, 1, 2] rfl (by decide) dX7_back_11 h
def wbX7_sheet_56 (p1 : Int32) (p2 : Int32) (p3 : Int32) (Q : Int32 → (Nat → Int32) → (Nat → Int32) → (Nat → Int32) → Prop) (k56 : (Nat → Int32) → (Nat → Int32) → (Nat → Int32) → Int32 → Prop) (ln : Nat → Int32) (lg : Nat → Int32) (ce : Nat → Int32) (x4 : Int32) : Prop :=
  (((40 : Int32) ≤ x4 → Q (1 : Int32) ln lg ce) ∧ (¬ (40 : Int32) ≤ x4 → (vp_in (((40 : Int32) * p1) + x4) 160 ∧ k56 ln lg (upd ce (((40 : Int32) * p1) + x4).toNatClampNeg (0 : Int32)) (x4 + 1))))
def wpX7_sheet_56 (p1 : Int32) (p2 : Int32) (p3 : Int32) (Q : Int32 → (Nat → Int32) → (Nat → Int32) → (Nat → Int32) → Prop) (n : Nat) : (Nat → Int32) → (Nat → Int32) → (Nat → Int32) → Int32 → Prop :=
  Nat.rec (motive := fun _ => (Nat → Int32) → (Nat → Int32) → (Nat → Int32) → Int32 → Prop) (fun _ _ _ _ => False) (fun _ k => wbX7_sheet_56 p1 p2 p3 Q  k) n
def wpX7_sheet (ln : Nat → Int32) (lg : Nat → Int32) (ce : Nat → Int32) (p1 : Int32) (p2 : Int32) (p3 : Int32) (Q : Int32 → (Nat → Int32) → (Nat → Int32) → (Nat → Int32) → Prop) : Prop :=
  (wpX7_in (p1.toInt64) (0 : Int64) (3 : Int64) (fun r_1 => ((r_1 = 0 → Q (-1 : Int32) ln lg ce) ∧ (¬ r_1 = 0 → (wpX7_in (p2.toInt64) (0 : Int64) (2 : Int64) (fun r_3 => ((r_3 = 0 → Q (-1 : Int32) ln lg ce) ∧ (¬ r_3 = 0 → ((p3 ≤ (40 : Int32) → ((0 ≤ p3 → (vp_in p1 4 ∧ (vp_in p1 4 ∧ (∃ n : Nat, wpX7_sheet_56 p1 p2 p3 Q  n (upd ln p1.toNatClampNeg p2) (upd lg p1.toNatClampNeg p3) ce (0 : Int32))))) ∧ (¬ 0 ≤ p3 → Q (-14 : Int32) ln lg ce))) ∧ (¬ p3 ≤ (40 : Int32) → Q (-1 : Int32) ln lg ce))))))))))
set_option maxHeartbeats 4000000 in
theorem metX7_sheet (l : Launch) (D : va_G) (kk : Nat → ClassId) (am : Nat → Nat) (sz : Nat) (f : Nat → Int32) (ln : Nat → Int32) (lg : Nat → Int32) (ce : Nat → Int32) (p1 : Int32) (p2 : Int32) (p3 : Int32) (Q : Int32 → (Nat → Int32) → (Nat → Int32) → (Nat → Int32) → Prop) (h : wpX7_sheet ln lg ce p1 p2 p3 Q) : Met l yX7_sheet (ws_ yX7_sheet cX7_sheet 5 (some .int)) { frames := 1, cells := 0, slots := 0, locals := 25 } (va_Pc ([.ref (am 0), .int p1, .int p2, .int p3] : List Value) (zPc D kk [zM am f, zA (kk 1) (am 10) 4 ln, zA (kk 1) (am 11) 4 lg, zA (kk 1) (am 12) 160 ce] sz)) (va_Qi (fun (r : Int32) (u : (Nat → Int32) × (Nat → Int32) × (Nat → Int32)) => Q r u.1 u.2.1 u.2.2) (zB D (va_A [zM am f, zA (kk 1) (am 10) 4 ln, zA (kk 1) (am 11) 4 lg, zA (kk 1) (am 12) 160 ce] sz) (fun u : (Nat → Int32) × (Nat → Int32) × (Nat → Int32) => [zM am f, zA (kk 1) (am 10) 4 u.1, zA (kk 1) (am 11) 4 u.2.1, zA (kk 1) (am 12) 160 u.2.2])) (va_A [zM am f, zA (kk 1) (am 10) 4 ln, zA (kk 1) (am 11) 4 lg, zA (kk 1) (am 12) 160 ce] sz)) 0 0 (va_A [zM am f, zA (kk 1) (am 10) 4 ln, zA (kk 1) (am 11) 4 lg, zA (kk 1) (am 12) 160 ce] sz) := by
  refine zMet (Qc := fun A => va_Qi (fun (r : Int32) (u : (Nat → Int32) × (Nat → Int32) × (Nat → Int32)) => Q r u.1 u.2.1 u.2.2) (zB D A (fun u : (Nat → Int32) × (Nat → Int32) × (Nat → Int32) => [zM am f, zA (kk 1) (am 10) 4 u.1, zA (kk 1) (am 11) 4 u.2.1, zA (kk 1) (am 12) 160 u.2.2])) A) (by decide) (Nat.le_of_ble_eq_true rfl) ?_
  intro p e s m below meth c A X hP hD hS ls hl
  obtain ⟨hx, hb, hr, hml, hown, hts, hlk, hnm, hK, hN, hA⟩ := X
  have hown : s.vm.findClass "LoseLeagueModel" = some m.cls := hown
  have hl : lv_has ls 5 [(0, .ref (am 0)), (1, .int p1), (2, .int p2), (3, .int p3)] := hl
  unfold wpX7_sheet at h
  refine lv_iload_n hx hb dX7_sheet_0 rfl (lv_at hl 1 rfl) ?_
  refine lv_i2l hx hb dX7_sheet_1 rfl ?_
  refine lv_lconst (v := (0 : Int64)) hx hb dX7_sheet_2 (by decide) ?_
  refine lv_ldc2 (v := (3 : Int64)) hx hb hown (hts _ q1137) dX7_sheet_3 ?_
  refine zc_i (wc := []) (wr := [zM am f, zA (kk 1) (am 10) 4 ln, zA (kk 1) (am 11) 4 lg, zA (kk 1) (am 12) 160 ce]) (w1 := (fun u : Unit => [])) (rest := []) [] [0, 1, 2, 3] rfl rfl (by decide) (by decide) (by decide) hA hP hD hS (fun hP hD => va_runS (As := [.long (p1.toInt64), .long (0 : Int64), .long (3 : Int64)]) (rest := []) ⟨hx, hb, hml, hown, hts⟩ (metX7_in l D kk _ (p1.toInt64) (0 : Int64) (3 : Int64) _ h) (va_cwS 3 hts (lw_S q1033 q1034 q71 q1035) rfl rfl rfl pdX7_in.2 ⟨(Nat.le_of_ble_eq_true rfl), (Nat.le_of_ble_eq_true rfl)⟩) (zp_S hK hN hP hD) rfl rfl hl.1 rfl (lv_room (Nat.le_of_ble_eq_true rfl)) dX7_sheet_6 ⟨(Nat.le_of_ble_eq_true rfl), (Nat.le_of_ble_eq_true rfl)⟩) (fun r_1 u H locs h hP hD hS => ?_)
  try dsimp only at h
  have hP : va_P D vwCl [zM am f, zA (kk 1) (am 10) 4 ln, zA (kk 1) (am 11) 4 lg, zA (kk 1) (am 12) 160 ce] H := hP
  have hD : va_D A [zM am f, zA (kk 1) (am 10) 4 ln, zA (kk 1) (am 11) 4 lg, zA (kk 1) (am 12) 160 ce] := hD
  refine lv_if_eq (tgt := 30) hx hb dX7_sheet_9 (by decide) (fun c_2 => ?_) (fun c_2 => ?_)
  · have h := h.1 c_2
    refine lv_iconst (v := (-1 : Int32)) hx hb dX7_sheet_30 (by decide) ?_
    exact zr_i hx hb hr hlk rfl hP hD hS (ln, lg, ce) [0, 1, 2, 3] rfl (by decide) dX7_sheet_31 h
  · have h := h.2 c_2
    refine lv_iload_n hx hb dX7_sheet_12 rfl (lv_at hl 2 rfl) ?_
    refine lv_i2l hx hb dX7_sheet_13 rfl ?_
    refine lv_lconst (v := (0 : Int64)) hx hb dX7_sheet_14 (by decide) ?_
    refine lv_ldc2 (v := (2 : Int64)) hx hb hown (hts _ q1197) dX7_sheet_15 ?_
    refine zc_i (wc := []) (wr := [zM am f, zA (kk 1) (am 10) 4 ln, zA (kk 1) (am 11) 4 lg, zA (kk 1) (am 12) 160 ce]) (w1 := (fun u : Unit => [])) (rest := []) [] [0, 1, 2, 3] rfl rfl (by decide) (by decide) (by decide) hA hP hD hS (fun hP hD => va_runS (As := [.long (p2.toInt64), .long (0 : Int64), .long (2 : Int64)]) (rest := []) ⟨hx, hb, hml, hown, hts⟩ (metX7_in l D kk _ (p2.toInt64) (0 : Int64) (2 : Int64) _ h) (va_cwS 3 hts (lw_S q1033 q1034 q71 q1035) rfl rfl rfl pdX7_in.2 ⟨(Nat.le_of_ble_eq_true rfl), (Nat.le_of_ble_eq_true rfl)⟩) (zp_S hK hN hP hD) rfl rfl hl.1 rfl (lv_room (Nat.le_of_ble_eq_true rfl)) dX7_sheet_18 ⟨(Nat.le_of_ble_eq_true rfl), (Nat.le_of_ble_eq_true rfl)⟩) (fun r_3 u H locs h hP hD hS => ?_)
    try dsimp only at h
    have hP : va_P D vwCl [zM am f, zA (kk 1) (am 10) 4 ln, zA (kk 1) (am 11) 4 lg, zA (kk 1) (am 12) 160 ce] H := hP
    have hD : va_D A [zM am f, zA (kk 1) (am 10) 4 ln, zA (kk 1) (am 11) 4 lg, zA (kk 1) (am 12) 160 ce] := hD
    refine lv_if_eq (tgt := 30) hx hb dX7_sheet_21 (by decide) (fun c_4 => ?_) (fun c_4 => ?_)
    · have h := h.1 c_4
      refine lv_iconst (v := (-1 : Int32)) hx hb dX7_sheet_30 (by decide) ?_
      exact zr_i hx hb hr hlk rfl hP hD hS (ln, lg, ce) [0, 1, 2, 3] rfl (by decide) dX7_sheet_31 h
    · have h := h.2 c_4
      refine lv_iload_n hx hb dX7_sheet_24 rfl (lv_at hl 3 rfl) ?_
      refine lv_bipush (v := (40 : Int32)) hx hb dX7_sheet_25 (by decide) ?_
      refine lv_icmp_le (tgt := 32) hx hb dX7_sheet_27 (by decide) (fun c_5 => ?_) (fun c_5 => ?_)
      · have h := h.1 c_5
        refine lv_iload_n hx hb dX7_sheet_32 rfl (lv_at hl 3 rfl) ?_
        refine lv_if_ge (tgt := 39) hx hb dX7_sheet_33 (by decide) (fun c_6 => ?_) (fun c_6 => ?_)
        · have h := h.1 c_6
          refine lv_aload_n hx hb dX7_sheet_39 rfl (lv_at hl 0 rfl) ?_
          refine va_get (D := D) (ci := 7) (v := .ref (am 10)) (C := RX7) (T := TX7) (N := 29) hx hb hts in_X7 hown hK hP 0 rfl rfl 25 (Nat.le_of_ble_eq_true rfl) (hts _ q964) (fun _ h9 => h9) rfl dX7_sheet_40 ?_
          refine lv_iload_n hx hb dX7_sheet_43 rfl (lv_at hl 1 rfl) ?_
          refine lv_iload_n hx hb dX7_sheet_44 rfl (lv_at hl 2 rfl) ?_
          obtain ⟨hin, h⟩ := h
          refine va_iast hx hb hK hP hD hS 1 1 rfl rfl hin dX7_sheet_45 (fun H locs hP hD hS => ?_)
          have hP : va_P D vwCl [zM am f, zA (kk 1) (am 10) 4 (upd ln p1.toNatClampNeg p2), zA (kk 1) (am 11) 4 lg, zA (kk 1) (am 12) 160 ce] H := hP
          have hD : va_D A [zM am f, zA (kk 1) (am 10) 4 (upd ln p1.toNatClampNeg p2), zA (kk 1) (am 11) 4 lg, zA (kk 1) (am 12) 160 ce] := hD
          refine lv_aload_n hx hb dX7_sheet_46 rfl (lv_at hl 0 rfl) ?_
          refine va_get (D := D) (ci := 7) (v := .ref (am 11)) (C := RX7) (T := TX7) (N := 29) hx hb hts in_X7 hown hK hP 0 rfl rfl 26 (Nat.le_of_ble_eq_true rfl) (hts _ q965) (fun _ h9 => h9) rfl dX7_sheet_47 ?_
          refine lv_iload_n hx hb dX7_sheet_50 rfl (lv_at hl 1 rfl) ?_
          refine lv_iload_n hx hb dX7_sheet_51 rfl (lv_at hl 3 rfl) ?_
          obtain ⟨hin, h⟩ := h
          refine va_iast hx hb hK hP hD hS 2 1 rfl rfl hin dX7_sheet_52 (fun H locs hP hD hS => ?_)
          have hP : va_P D vwCl [zM am f, zA (kk 1) (am 10) 4 (upd ln p1.toNatClampNeg p2), zA (kk 1) (am 11) 4 (upd lg p1.toNatClampNeg p3), zA (kk 1) (am 12) 160 ce] H := hP
          have hD : va_D A [zM am f, zA (kk 1) (am 10) 4 (upd ln p1.toNatClampNeg p2), zA (kk 1) (am 11) 4 (upd lg p1.toNatClampNeg p3), zA (kk 1) (am 12) 160 ce] := hD
          refine lv_iconst (v := (0 : Int32)) hx hb dX7_sheet_53 (by decide) ?_
          have cut_56 : ∀ (nl56 : Nat) (ln : Nat → Int32) (lg : Nat → Int32) (ce : Nat → Int32) (x4 : Int32), wpX7_sheet_56 p1 p2 p3 Q  nl56 ln lg ce x4 → ∀ (H : Heap) (locs : List Loc), va_P D vwCl [zM am f, zA (kk 1) (am 10) 4 ln, zA (kk 1) (am 11) 4 lg, zA (kk 1) (am 12) 160 ce] H → va_D A [zM am f, zA (kk 1) (am 10) 4 ln, zA (kk 1) (am 11) 4 lg, zA (kk 1) (am 12) 160 ce] → va_S A s.heap H locs → ∀ ls : Array Slot, lv_has ls 5 [(4, .int x4), (0, .ref (am 0)), (1, .int p1)] → W p l e { frames := 1, cells := 0, slots := 0, locals := 25 } s m ([.ref (am 0), .int p1, .int p2, .int p3] : List Value).toArray below meth c H locs 0 0 (MQ below (va_Qi (fun (r : Int32) (u : (Nat → Int32) × (Nat → Int32) × (Nat → Int32)) => Q r u.1 u.2.1 u.2.2) (zB D A (fun u : (Nat → Int32) × (Nat → Int32) × (Nat → Int32) => [zM am f, zA (kk 1) (am 10) 4 u.1, zA (kk 1) (am 11) 4 u.2.1, zA (kk 1) (am 12) 160 u.2.2])) A) ([.ref (am 0), .int p1, .int p2, .int p3] : List Value).toArray s 0 0 A) (F0 m 56 ls []) := by
            intro nl56
            induction nl56 with
            | zero => intro ln lg ce x4 h; exact absurd h id
            | succ nl56 ih_56 =>
              intro ln lg ce x4 h H locs hP hD hS ls hl
              have h : wbX7_sheet_56 p1 p2 p3 Q  (wpX7_sheet_56 p1 p2 p3 Q  nl56) ln lg ce x4 := h
              unfold wbX7_sheet_56 at h
              refine lv_iload hx hb dX7_sheet_56 (lv_at hl 0 rfl) ?_
              refine lv_bipush (v := (40 : Int32)) hx hb dX7_sheet_58 (by decide) ?_
              refine lv_icmp_ge (tgt := 82) hx hb dX7_sheet_60 (by decide) (fun c_7 => ?_) (fun c_7 => ?_)
              · have h := h.1 c_7
                refine lv_iconst (v := (1 : Int32)) hx hb dX7_sheet_82 (by decide) ?_
                exact zr_i hx hb hr hlk rfl hP hD hS (ln, lg, ce) [0, 1, 2, 3] rfl (by decide) dX7_sheet_83 h
              · have h := h.2 c_7
                refine lv_aload_n hx hb dX7_sheet_63 rfl (lv_at hl 1 rfl) ?_
                refine va_get (D := D) (ci := 7) (v := .ref (am 12)) (C := RX7) (T := TX7) (N := 29) hx hb hts in_X7 hown hK hP 0 rfl rfl 27 (Nat.le_of_ble_eq_true rfl) (hts _ q966) (fun _ h9 => h9) rfl dX7_sheet_64 ?_
                refine lv_bipush (v := (40 : Int32)) hx hb dX7_sheet_67 (by decide) ?_
                refine lv_iload_n hx hb dX7_sheet_69 rfl (lv_at hl 2 rfl) ?_
                refine lv_imul hx hb dX7_sheet_70 ?_
                refine lv_iload hx hb dX7_sheet_71 (lv_at hl 0 rfl) ?_
                refine lv_iadd hx hb dX7_sheet_73 ?_
                refine lv_iconst (v := (0 : Int32)) hx hb dX7_sheet_74 (by decide) ?_
                obtain ⟨hin, h⟩ := h
                refine va_iast hx hb hK hP hD hS 3 1 rfl rfl hin dX7_sheet_75 (fun H locs hP hD hS => ?_)
                have hP : va_P D vwCl [zM am f, zA (kk 1) (am 10) 4 ln, zA (kk 1) (am 11) 4 lg, zA (kk 1) (am 12) 160 (upd ce (((40 : Int32) * p1) + x4).toNatClampNeg (0 : Int32))] H := hP
                have hD : va_D A [zM am f, zA (kk 1) (am 10) 4 ln, zA (kk 1) (am 11) 4 lg, zA (kk 1) (am 12) 160 (upd ce (((40 : Int32) * p1) + x4).toNatClampNeg (0 : Int32))] := hD
                refine lv_iinc (v := (x4 + 1)) (lv' := [(4, .int (x4 + 1)), (0, .ref (am 0)), (1, .int p1)]) hx hb dX7_sheet_76 hl (k := 0) rfl rfl (by decide) rfl (fun ls hl => ?_)
                refine lv_goto (tgt := 56) hx hb dX7_sheet_79 (by decide) ?_
                exact ih_56 ln lg (upd ce (((40 : Int32) * p1) + x4).toNatClampNeg (0 : Int32)) (x4 + 1) h _ _ hP hD hS _ (lv_sub hl [0, 1, 2] rfl)
          refine lv_istore (lv' := [(4, .int (0 : Int32)), (0, .ref (am 0)), (1, .int p1), (2, .int p2), (3, .int p3)]) hx hb dX7_sheet_54 hl (by decide) rfl (fun ls hl => ?_)
          obtain ⟨n_56, h⟩ := h
          exact cut_56 n_56 (upd ln p1.toNatClampNeg p2) (upd lg p1.toNatClampNeg p3) ce (0 : Int32) h _ _ hP hD hS _ (lv_sub hl [0, 1, 2] rfl)
        · have h := h.2 c_6
          refine lv_bipush (v := (-14 : Int32)) hx hb dX7_sheet_36 (by decide) ?_
          exact zr_i hx hb hr hlk rfl hP hD hS (ln, lg, ce) [0, 1, 2, 3] rfl (by decide) dX7_sheet_38 h
      · have h := h.2 c_5
        refine lv_iconst (v := (-1 : Int32)) hx hb dX7_sheet_30 (by decide) ?_
        exact zr_i hx hb hr hlk rfl hP hD hS (ln, lg, ce) [0, 1, 2, 3] rfl (by decide) dX7_sheet_31 h
def wpX7_lay_99 (ln : Nat → Int32) (lg : Nat → Int32) (p1 : Int32) (p2 : Int32) (p3 : Int32) (Q : Int32 → (Nat → Int32) → Prop) (ce : Nat → Int32) (s2 : Int32) (s1 : Int32) : Prop :=
  (vp_in s1 160 ∧ Q (1 : Int32) (upd ce s1.toNatClampNeg s2))
def wpX7_lay (ln : Nat → Int32) (lg : Nat → Int32) (ce : Nat → Int32) (p1 : Int32) (p2 : Int32) (p3 : Int32) (Q : Int32 → (Nat → Int32) → Prop) : Prop :=
  (wpX7_in (p1.toInt64) (0 : Int64) (3 : Int64) (fun r_1 => ((r_1 = 0 → Q (-1 : Int32) ce) ∧ (¬ r_1 = 0 → (vp_in p1 4 ∧ (((ln p1.toNatClampNeg) = (-4 : Int32) → Q (-11 : Int32) ce) ∧ (¬ (ln p1.toNatClampNeg) = (-4 : Int32) → (vp_in p1 4 ∧ (wpX7_in (p2.toInt64) (0 : Int64) (((lg p1.toNatClampNeg) - (1 : Int32)).toInt64) (fun r_4 => ((r_4 = 0 → Q (-12 : Int32) ce) ∧ (¬ r_4 = 0 → (vp_in p1 4 ∧ (((ln p1.toNatClampNeg) = 0 → wpX7_lay_99 ln lg p1 p2 p3 Q  ce ((p3 <<< ((24 : Int32) &&& 31)) >>> ((24 : Int32) &&& 31)) (((40 : Int32) * p1) + p2)) ∧ (¬ (ln p1.toNatClampNeg) = 0 → (vp_in p1 4 ∧ (((ln p1.toNatClampNeg) = (1 : Int32) → wpX7_lay_99 ln lg p1 p2 p3 Q  ce ((p3 <<< ((16 : Int32) &&& 31)) >>> ((16 : Int32) &&& 31)) (((40 : Int32) * p1) + p2)) ∧ (¬ (ln p1.toNatClampNeg) = (1 : Int32) → wpX7_lay_99 ln lg p1 p2 p3 Q  ce p3 (((40 : Int32) * p1) + p2)))))))))))))))))))
set_option maxHeartbeats 4000000 in
theorem metX7_lay (l : Launch) (D : va_G) (kk : Nat → ClassId) (am : Nat → Nat) (sz : Nat) (f : Nat → Int32) (ln : Nat → Int32) (lg : Nat → Int32) (ce : Nat → Int32) (p1 : Int32) (p2 : Int32) (p3 : Int32) (Q : Int32 → (Nat → Int32) → Prop) (h : wpX7_lay ln lg ce p1 p2 p3 Q) : Met l yX7_lay (ws_ yX7_lay cX7_lay 4 (some .int)) { frames := 1, cells := 0, slots := 0, locals := 25 } (va_Pc ([.ref (am 0), .int p1, .int p2, .int p3] : List Value) (zPc D kk [zM am f, zA (kk 1) (am 10) 4 ln, zA (kk 1) (am 11) 4 lg, zA (kk 1) (am 12) 160 ce] sz)) (va_Qi (fun (r : Int32) (u : (Nat → Int32)) => Q r u) (zB D (va_A [zM am f, zA (kk 1) (am 10) 4 ln, zA (kk 1) (am 11) 4 lg, zA (kk 1) (am 12) 160 ce] sz) (fun u : (Nat → Int32) => [zM am f, zA (kk 1) (am 10) 4 ln, zA (kk 1) (am 11) 4 lg, zA (kk 1) (am 12) 160 u])) (va_A [zM am f, zA (kk 1) (am 10) 4 ln, zA (kk 1) (am 11) 4 lg, zA (kk 1) (am 12) 160 ce] sz)) 0 0 (va_A [zM am f, zA (kk 1) (am 10) 4 ln, zA (kk 1) (am 11) 4 lg, zA (kk 1) (am 12) 160 ce] sz) := by
  refine zMet (Qc := fun A => va_Qi (fun (r : Int32) (u : (Nat → Int32)) => Q r u) (zB D A (fun u : (Nat → Int32) => [zM am f, zA (kk 1) (am 10) 4 ln, zA (kk 1) (am 11) 4 lg, zA (kk 1) (am 12) 160 u])) A) (by decide) (Nat.le_of_ble_eq_true rfl) ?_
  intro p e s m below meth c A X hP hD hS ls hl
  obtain ⟨hx, hb, hr, hml, hown, hts, hlk, hnm, hK, hN, hA⟩ := X
  have hown : s.vm.findClass "LoseLeagueModel" = some m.cls := hown
  have hl : lv_has ls 4 [(0, .ref (am 0)), (1, .int p1), (2, .int p2), (3, .int p3)] := hl
  unfold wpX7_lay at h
  refine lv_iload_n hx hb dX7_lay_0 rfl (lv_at hl 1 rfl) ?_
  refine lv_i2l hx hb dX7_lay_1 rfl ?_
  refine lv_lconst (v := (0 : Int64)) hx hb dX7_lay_2 (by decide) ?_
  refine lv_ldc2 (v := (3 : Int64)) hx hb hown (hts _ q1137) dX7_lay_3 ?_
  refine zc_i (wc := []) (wr := [zM am f, zA (kk 1) (am 10) 4 ln, zA (kk 1) (am 11) 4 lg, zA (kk 1) (am 12) 160 ce]) (w1 := (fun u : Unit => [])) (rest := []) [] [0, 1, 2, 3] rfl rfl (by decide) (by decide) (by decide) hA hP hD hS (fun hP hD => va_runS (As := [.long (p1.toInt64), .long (0 : Int64), .long (3 : Int64)]) (rest := []) ⟨hx, hb, hml, hown, hts⟩ (metX7_in l D kk _ (p1.toInt64) (0 : Int64) (3 : Int64) _ h) (va_cwS 3 hts (lw_S q1033 q1034 q71 q1035) rfl rfl rfl pdX7_in.2 ⟨(Nat.le_of_ble_eq_true rfl), (Nat.le_of_ble_eq_true rfl)⟩) (zp_S hK hN hP hD) rfl rfl hl.1 rfl (lv_room (Nat.le_of_ble_eq_true rfl)) dX7_lay_6 ⟨(Nat.le_of_ble_eq_true rfl), (Nat.le_of_ble_eq_true rfl)⟩) (fun r_1 u H locs h hP hD hS => ?_)
  try dsimp only at h
  have hP : va_P D vwCl [zM am f, zA (kk 1) (am 10) 4 ln, zA (kk 1) (am 11) 4 lg, zA (kk 1) (am 12) 160 ce] H := hP
  have hD : va_D A [zM am f, zA (kk 1) (am 10) 4 ln, zA (kk 1) (am 11) 4 lg, zA (kk 1) (am 12) 160 ce] := hD
  refine lv_if_ne (tgt := 14) hx hb dX7_lay_9 (by decide) (fun c_2 => ?_) (fun c_2 => ?_)
  · have h := h.2 c_2
    refine lv_aload_n hx hb dX7_lay_14 rfl (lv_at hl 0 rfl) ?_
    refine va_get (D := D) (ci := 7) (v := .ref (am 10)) (C := RX7) (T := TX7) (N := 29) hx hb hts in_X7 hown hK hP 0 rfl rfl 25 (Nat.le_of_ble_eq_true rfl) (hts _ q964) (fun _ h9 => h9) rfl dX7_lay_15 ?_
    refine lv_iload_n hx hb dX7_lay_18 rfl (lv_at hl 1 rfl) ?_
    obtain ⟨hin, h⟩ := h
    refine va_iald hx hb hK hP 1 1 rfl rfl hin dX7_lay_19 ?_
    refine lv_bipush (v := (-4 : Int32)) hx hb dX7_lay_20 (by decide) ?_
    refine lv_icmp_ne (tgt := 28) hx hb dX7_lay_22 (by decide) (fun c_3 => ?_) (fun c_3 => ?_)
    · have h := h.2 c_3
      refine lv_iload_n hx hb dX7_lay_28 rfl (lv_at hl 2 rfl) ?_
      refine lv_i2l hx hb dX7_lay_29 rfl ?_
      refine lv_lconst (v := (0 : Int64)) hx hb dX7_lay_30 (by decide) ?_
      refine lv_aload_n hx hb dX7_lay_31 rfl (lv_at hl 0 rfl) ?_
      refine va_get (D := D) (ci := 7) (v := .ref (am 11)) (C := RX7) (T := TX7) (N := 29) hx hb hts in_X7 hown hK hP 0 rfl rfl 26 (Nat.le_of_ble_eq_true rfl) (hts _ q965) (fun _ h9 => h9) rfl dX7_lay_32 ?_
      refine lv_iload_n hx hb dX7_lay_35 rfl (lv_at hl 1 rfl) ?_
      obtain ⟨hin, h⟩ := h
      refine va_iald hx hb hK hP 2 1 rfl rfl hin dX7_lay_36 ?_
      refine lv_iconst (v := (1 : Int32)) hx hb dX7_lay_37 (by decide) ?_
      refine lv_isub hx hb dX7_lay_38 ?_
      refine lv_i2l hx hb dX7_lay_39 rfl ?_
      refine zc_i (wc := []) (wr := [zM am f, zA (kk 1) (am 10) 4 ln, zA (kk 1) (am 11) 4 lg, zA (kk 1) (am 12) 160 ce]) (w1 := (fun u : Unit => [])) (rest := []) [] [0, 1, 2, 3] rfl rfl (by decide) (by decide) (by decide) hA hP hD hS (fun hP hD => va_runS (As := [.long (p2.toInt64), .long (0 : Int64), .long (((lg p1.toNatClampNeg) - (1 : Int32)).toInt64)]) (rest := []) ⟨hx, hb, hml, hown, hts⟩ (metX7_in l D kk _ (p2.toInt64) (0 : Int64) (((lg p1.toNatClampNeg) - (1 : Int32)).toInt64) _ h) (va_cwS 3 hts (lw_S q1033 q1034 q71 q1035) rfl rfl rfl pdX7_in.2 ⟨(Nat.le_of_ble_eq_true rfl), (Nat.le_of_ble_eq_true rfl)⟩) (zp_S hK hN hP hD) rfl rfl hl.1 rfl (lv_room (Nat.le_of_ble_eq_true rfl)) dX7_lay_40 ⟨(Nat.le_of_ble_eq_true rfl), (Nat.le_of_ble_eq_true rfl)⟩) (fun r_4 u H locs h hP hD hS => ?_)
      try dsimp only at h
      have hP : va_P D vwCl [zM am f, zA (kk 1) (am 10) 4 ln, zA (kk 1) (am 11) 4 lg, zA (kk 1) (am 12) 160 ce] H := hP
      have hD : va_D A [zM am f, zA (kk 1) (am 10) 4 ln, zA (kk 1) (am 11) 4 lg, zA (kk 1) (am 12) 160 ce] := hD
      refine lv_if_ne (tgt := 49) hx hb dX7_lay_43 (by decide) (fun c_5 => ?_) (fun c_5 => ?_)
      · have h := h.2 c_5
        refine lv_aload_n hx hb dX7_lay_49 rfl (lv_at hl 0 rfl) ?_
        refine va_get (D := D) (ci := 7) (v := .ref (am 12)) (C := RX7) (T := TX7) (N := 29) hx hb hts in_X7 hown hK hP 0 rfl rfl 27 (Nat.le_of_ble_eq_true rfl) (hts _ q966) (fun _ h9 => h9) rfl dX7_lay_50 ?_
        refine lv_bipush (v := (40 : Int32)) hx hb dX7_lay_53 (by decide) ?_
        refine lv_iload_n hx hb dX7_lay_55 rfl (lv_at hl 1 rfl) ?_
        refine lv_imul hx hb dX7_lay_56 ?_
        refine lv_iload_n hx hb dX7_lay_57 rfl (lv_at hl 2 rfl) ?_
        refine lv_iadd hx hb dX7_lay_58 ?_
        refine lv_aload_n hx hb dX7_lay_59 rfl (lv_at hl 0 rfl) ?_
        refine va_get (D := D) (ci := 7) (v := .ref (am 10)) (C := RX7) (T := TX7) (N := 29) hx hb hts in_X7 hown hK hP 0 rfl rfl 25 (Nat.le_of_ble_eq_true rfl) (hts _ q964) (fun _ h9 => h9) rfl dX7_lay_60 ?_
        refine lv_iload_n hx hb dX7_lay_63 rfl (lv_at hl 1 rfl) ?_
        obtain ⟨hin, h⟩ := h
        refine va_iald hx hb hK hP 1 1 rfl rfl hin dX7_lay_64 ?_
        have cut_99 : ∀ (ce : Nat → Int32) (s2 : Int32) (s1 : Int32), wpX7_lay_99 ln lg p1 p2 p3 Q  ce s2 s1 → ∀ (H : Heap) (locs : List Loc), va_P D vwCl [zM am f, zA (kk 1) (am 10) 4 ln, zA (kk 1) (am 11) 4 lg, zA (kk 1) (am 12) 160 ce] H → va_D A [zM am f, zA (kk 1) (am 10) 4 ln, zA (kk 1) (am 11) 4 lg, zA (kk 1) (am 12) 160 ce] → va_S A s.heap H locs → ∀ ls : Array Slot, lv_has ls 4 [] → W p l e { frames := 1, cells := 0, slots := 0, locals := 25 } s m ([.ref (am 0), .int p1, .int p2, .int p3] : List Value).toArray below meth c H locs 0 0 (MQ below (va_Qi (fun (r : Int32) (u : (Nat → Int32)) => Q r u) (zB D A (fun u : (Nat → Int32) => [zM am f, zA (kk 1) (am 10) 4 ln, zA (kk 1) (am 11) 4 lg, zA (kk 1) (am 12) 160 u])) A) ([.ref (am 0), .int p1, .int p2, .int p3] : List Value).toArray s 0 0 A) (F0 m 99 ls [.int s2, .int s1, .ref (am 12)]) := by
          intro ce s2 s1 h H locs hP hD hS ls hl
          unfold wpX7_lay_99 at h
          obtain ⟨hin, h⟩ := h
          refine va_iast hx hb hK hP hD hS 3 1 rfl rfl hin dX7_lay_99 (fun H locs hP hD hS => ?_)
          have hP : va_P D vwCl [zM am f, zA (kk 1) (am 10) 4 ln, zA (kk 1) (am 11) 4 lg, zA (kk 1) (am 12) 160 (upd ce s1.toNatClampNeg s2)] H := hP
          have hD : va_D A [zM am f, zA (kk 1) (am 10) 4 ln, zA (kk 1) (am 11) 4 lg, zA (kk 1) (am 12) 160 (upd ce s1.toNatClampNeg s2)] := hD
          refine lv_iconst (v := (1 : Int32)) hx hb dX7_lay_100 (by decide) ?_
          exact zr_i hx hb hr hlk rfl hP hD hS ((upd ce s1.toNatClampNeg s2)) [0, 1, 2, 3] rfl (by decide) dX7_lay_101 h
        refine lv_if_ne (tgt := 78) hx hb dX7_lay_65 (by decide) (fun c_6 => ?_) (fun c_6 => ?_)
        · have h := h.2 c_6
          refine lv_aload_n hx hb dX7_lay_78 rfl (lv_at hl 0 rfl) ?_
          refine va_get (D := D) (ci := 7) (v := .ref (am 10)) (C := RX7) (T := TX7) (N := 29) hx hb hts in_X7 hown hK hP 0 rfl rfl 25 (Nat.le_of_ble_eq_true rfl) (hts _ q964) (fun _ h9 => h9) rfl dX7_lay_79 ?_
          refine lv_iload_n hx hb dX7_lay_82 rfl (lv_at hl 1 rfl) ?_
          obtain ⟨hin, h⟩ := h
          refine va_iald hx hb hK hP 1 1 rfl rfl hin dX7_lay_83 ?_
          refine lv_iconst (v := (1 : Int32)) hx hb dX7_lay_84 (by decide) ?_
          refine lv_icmp_ne (tgt := 98) hx hb dX7_lay_85 (by decide) (fun c_7 => ?_) (fun c_7 => ?_)
          · have h := h.2 c_7
            refine lv_iload_n hx hb dX7_lay_98 rfl (lv_at hl 3 rfl) ?_
            exact cut_99 ce p3 (((40 : Int32) * p1) + p2) h _ _ hP hD hS _ (lv_sub hl [] rfl)
          · have h := h.1 c_7
            refine lv_iload_n hx hb dX7_lay_88 rfl (lv_at hl 3 rfl) ?_
            refine lv_bipush (v := (16 : Int32)) hx hb dX7_lay_89 (by decide) ?_
            refine lv_ishl hx hb dX7_lay_91 ?_
            refine lv_bipush (v := (16 : Int32)) hx hb dX7_lay_92 (by decide) ?_
            refine lv_ishr hx hb dX7_lay_94 ?_
            refine lv_goto (tgt := 99) hx hb dX7_lay_95 (by decide) ?_
            exact cut_99 ce ((p3 <<< ((16 : Int32) &&& 31)) >>> ((16 : Int32) &&& 31)) (((40 : Int32) * p1) + p2) h _ _ hP hD hS _ (lv_sub hl [] rfl)
        · have h := h.1 c_6
          refine lv_iload_n hx hb dX7_lay_68 rfl (lv_at hl 3 rfl) ?_
          refine lv_bipush (v := (24 : Int32)) hx hb dX7_lay_69 (by decide) ?_
          refine lv_ishl hx hb dX7_lay_71 ?_
          refine lv_bipush (v := (24 : Int32)) hx hb dX7_lay_72 (by decide) ?_
          refine lv_ishr hx hb dX7_lay_74 ?_
          refine lv_goto (tgt := 99) hx hb dX7_lay_75 (by decide) ?_
          exact cut_99 ce ((p3 <<< ((24 : Int32) &&& 31)) >>> ((24 : Int32) &&& 31)) (((40 : Int32) * p1) + p2) h _ _ hP hD hS _ (lv_sub hl [] rfl)
      · have h := h.1 c_5
        refine lv_bipush (v := (-12 : Int32)) hx hb dX7_lay_46 (by decide) ?_
        exact zr_i hx hb hr hlk rfl hP hD hS (ce) [0, 1, 2, 3] rfl (by decide) dX7_lay_48 h
    · have h := h.1 c_3
      refine lv_bipush (v := (-11 : Int32)) hx hb dX7_lay_25 (by decide) ?_
      exact zr_i hx hb hr hlk rfl hP hD hS (ce) [0, 1, 2, 3] rfl (by decide) dX7_lay_27 h
  · have h := h.1 c_2
    refine lv_iconst (v := (-1 : Int32)) hx hb dX7_lay_12 (by decide) ?_
    exact zr_i hx hb hr hlk rfl hP hD hS (ce) [0, 1, 2, 3] rfl (by decide) dX7_lay_13 h
def wpX7_read_196 (ln : Nat → Int32) (lg : Nat → Int32) (ce : Nat → Int32) (p1 : Int32) (p2 : Int32) (p3 : Int32) (p4 : Int32) (Q : Int32 → (Nat → Int32) → (Nat → Int32) → Prop) (k55 : (Nat → Int32) → (Nat → Int32) → Int32 → Int32 → Int32 → Prop) (f : Nat → Int32) (st : Nat → Int32) (x5 : Int32) (x6 : Int32) : Prop :=
  Q x6 (upd f 28 x5) st
def wpX7_read_190 (ln : Nat → Int32) (lg : Nat → Int32) (ce : Nat → Int32) (p1 : Int32) (p2 : Int32) (p3 : Int32) (p4 : Int32) (Q : Int32 → (Nat → Int32) → (Nat → Int32) → Prop) (k55 : (Nat → Int32) → (Nat → Int32) → Int32 → Int32 → Int32 → Prop) (f : Nat → Int32) (st : Nat → Int32) (x5 : Int32) (x6 : Int32) (x7 : Int32) : Prop :=
  k55 f st x5 x6 (x7 + 1)
def wpX7_read_125 (ln : Nat → Int32) (lg : Nat → Int32) (ce : Nat → Int32) (p1 : Int32) (p2 : Int32) (p3 : Int32) (p4 : Int32) (Q : Int32 → (Nat → Int32) → (Nat → Int32) → Prop) (k55 : (Nat → Int32) → (Nat → Int32) → Int32 → Int32 → Int32 → Prop) (f : Nat → Int32) (st : Nat → Int32) (x6 : Int32) (x7 : Int32) (s0 : Int32) : Prop :=
  ((s0 = 0 → (((x7 - x7 / (2 : Int32) * (2 : Int32)) = (1 : Int32) → (∀ x8_13 : Int32, x8_13 = ((((40 : Int32) * p1) + p3) + x7) → (vp_in (x8_13 - (1 : Int32)) 160 ∧ (vp_in x8_13 160 ∧ (wpX7_books f st (ce (x8_13 - (1 : Int32)).toNatClampNeg) (ce x8_13.toNatClampNeg) (fun r_14 st_15 => ((0 ≤ r_14 → wpX7_read_190 ln lg ce p1 p2 p3 p4 Q k55 f st_15 s0 (x6 + 1) x7) ∧ (¬ 0 ≤ r_14 → (wpX7_copies st_15 (126 : Int32) (0 : Int32) (fun st_18 => Q ((-20 : Int32) - x6) f st_18)))))))))) ∧ (¬ (x7 - x7 / (2 : Int32) * (2 : Int32)) = (1 : Int32) → wpX7_read_190 ln lg ce p1 p2 p3 p4 Q k55 f st s0 x6 x7))) ∧ (¬ s0 = 0 → wpX7_read_190 ln lg ce p1 p2 p3 p4 Q k55 f st s0 x6 x7))
def wbX7_read_55 (ln : Nat → Int32) (lg : Nat → Int32) (ce : Nat → Int32) (p1 : Int32) (p2 : Int32) (p3 : Int32) (p4 : Int32) (Q : Int32 → (Nat → Int32) → (Nat → Int32) → Prop) (k55 : (Nat → Int32) → (Nat → Int32) → Int32 → Int32 → Int32 → Prop) (f : Nat → Int32) (st : Nat → Int32) (x5 : Int32) (x6 : Int32) (x7 : Int32) : Prop :=
  ((((2 : Int32) * p4) ≤ x7 → wpX7_read_196 ln lg ce p1 p2 p3 p4 Q k55 f st x5 x6) ∧ (¬ ((2 : Int32) * p4) ≤ x7 → ((x5 = 0 → (vp_in p1 4 ∧ (((ln p1.toNatClampNeg) = (-4 : Int32) → wpX7_read_125 ln lg ce p1 p2 p3 p4 Q k55 f st x6 x7 (1 : Int32)) ∧ (¬ (ln p1.toNatClampNeg) = (-4 : Int32) → (vp_in p1 4 ∧ (((ln p1.toNatClampNeg) = p2 → (vp_in p1 4 ∧ (wpX7_in ((p3.toInt64) + (x7.toInt64)) (0 : Int64) (((lg p1.toNatClampNeg) - (1 : Int32)).toInt64) (fun r_21 => ((r_21 = 0 → wpX7_read_125 ln lg ce p1 p2 p3 p4 Q k55 f st x6 x7 (2 : Int32)) ∧ (¬ r_21 = 0 → wpX7_read_125 ln lg ce p1 p2 p3 p4 Q k55 f st x6 x7 (0 : Int32))))))) ∧ (¬ (ln p1.toNatClampNeg) = p2 → wpX7_read_125 ln lg ce p1 p2 p3 p4 Q k55 f st x6 x7 (3 : Int32)))))))) ∧ (¬ x5 = 0 → wpX7_read_196 ln lg ce p1 p2 p3 p4 Q k55 f st x5 x6))))
def wpX7_read_55 (ln : Nat → Int32) (lg : Nat → Int32) (ce : Nat → Int32) (p1 : Int32) (p2 : Int32) (p3 : Int32) (p4 : Int32) (Q : Int32 → (Nat → Int32) → (Nat → Int32) → Prop) (n : Nat) : (Nat → Int32) → (Nat → Int32) → Int32 → Int32 → Int32 → Prop :=
  Nat.rec (motive := fun _ => (Nat → Int32) → (Nat → Int32) → Int32 → Int32 → Int32 → Prop) (fun _ _ _ _ _ => False) (fun _ k => wbX7_read_55 ln lg ce p1 p2 p3 p4 Q  k) n
def wpX7_read (f : Nat → Int32) (st : Nat → Int32) (ln : Nat → Int32) (lg : Nat → Int32) (ce : Nat → Int32) (p1 : Int32) (p2 : Int32) (p3 : Int32) (p4 : Int32) (Q : Int32 → (Nat → Int32) → (Nat → Int32) → Prop) : Prop :=
  (wpX7_in (p1.toInt64) (0 : Int64) (3 : Int64) (fun r_1 => ((r_1 = 0 → Q (-1 : Int32) f st) ∧ (¬ r_1 = 0 → (wpX7_in (p2.toInt64) (0 : Int64) (2 : Int64) (fun r_3 => ((r_3 = 0 → Q (-1 : Int32) f st) ∧ (¬ r_3 = 0 → (wpX7_in (p4.toInt64) (0 : Int64) (20 : Int64) (fun r_5 => ((r_5 = 0 → Q (-1 : Int32) f st) ∧ (¬ r_5 = 0 → (wpX7_copies st (0 : Int32) (126 : Int32) (fun st_8 => (∃ n : Nat, wpX7_read_55 ln lg ce p1 p2 p3 p4 Q  n f st_8 (0 : Int32) (0 : Int32) (0 : Int32))))))))))))))))
set_option maxHeartbeats 4000000 in
theorem metX7_read (l : Launch) (D : va_G) (kk : Nat → ClassId) (am : Nat → Nat) (sz : Nat) (f : Nat → Int32) (st : Nat → Int32) (ln : Nat → Int32) (lg : Nat → Int32) (ce : Nat → Int32) (p1 : Int32) (p2 : Int32) (p3 : Int32) (p4 : Int32) (Q : Int32 → (Nat → Int32) → (Nat → Int32) → Prop) (h : wpX7_read f st ln lg ce p1 p2 p3 p4 Q) : Met l yX7_read (ws_ yX7_read cX7_read 9 (some .int)) { frames := 4, cells := 0, slots := 0, locals := 91 } (va_Pc ([.ref (am 0), .int p1, .int p2, .int p3, .int p4] : List Value) (zPc D kk [zM am f, zA (kk 1) (am 1) 252 st, zA (kk 1) (am 10) 4 ln, zA (kk 1) (am 11) 4 lg, zA (kk 1) (am 12) 160 ce] sz)) (va_Qi (fun (r : Int32) (u : (Nat → Int32) × (Nat → Int32)) => Q r u.1 u.2) (zB D (va_A [zM am f, zA (kk 1) (am 1) 252 st, zA (kk 1) (am 10) 4 ln, zA (kk 1) (am 11) 4 lg, zA (kk 1) (am 12) 160 ce] sz) (fun u : (Nat → Int32) × (Nat → Int32) => [zM am u.1, zA (kk 1) (am 1) 252 u.2, zA (kk 1) (am 10) 4 ln, zA (kk 1) (am 11) 4 lg, zA (kk 1) (am 12) 160 ce])) (va_A [zM am f, zA (kk 1) (am 1) 252 st, zA (kk 1) (am 10) 4 ln, zA (kk 1) (am 11) 4 lg, zA (kk 1) (am 12) 160 ce] sz)) 0 0 (va_A [zM am f, zA (kk 1) (am 1) 252 st, zA (kk 1) (am 10) 4 ln, zA (kk 1) (am 11) 4 lg, zA (kk 1) (am 12) 160 ce] sz) := by
  refine zMet (Qc := fun A => va_Qi (fun (r : Int32) (u : (Nat → Int32) × (Nat → Int32)) => Q r u.1 u.2) (zB D A (fun u : (Nat → Int32) × (Nat → Int32) => [zM am u.1, zA (kk 1) (am 1) 252 u.2, zA (kk 1) (am 10) 4 ln, zA (kk 1) (am 11) 4 lg, zA (kk 1) (am 12) 160 ce])) A) (by decide) (Nat.le_of_ble_eq_true rfl) ?_
  intro p e s m below meth c A X hP hD hS ls hl
  obtain ⟨hx, hb, hr, hml, hown, hts, hlk, hnm, hK, hN, hA⟩ := X
  have hown : s.vm.findClass "LoseLeagueModel" = some m.cls := hown
  have hl : lv_has ls 9 [(0, .ref (am 0)), (1, .int p1), (2, .int p2), (3, .int p3), (4, .int p4)] := hl
  unfold wpX7_read at h
  refine lv_iload_n hx hb dX7_read_0 rfl (lv_at hl 1 rfl) ?_
  refine lv_i2l hx hb dX7_read_1 rfl ?_
  refine lv_lconst (v := (0 : Int64)) hx hb dX7_read_2 (by decide) ?_
  refine lv_ldc2 (v := (3 : Int64)) hx hb hown (hts _ q1137) dX7_read_3 ?_
  refine zc_i (wc := []) (wr := [zM am f, zA (kk 1) (am 1) 252 st, zA (kk 1) (am 10) 4 ln, zA (kk 1) (am 11) 4 lg, zA (kk 1) (am 12) 160 ce]) (w1 := (fun u : Unit => [])) (rest := []) [] [0, 1, 2, 3, 4] rfl rfl (by decide) (by decide) (by decide) hA hP hD hS (fun hP hD => va_runS (As := [.long (p1.toInt64), .long (0 : Int64), .long (3 : Int64)]) (rest := []) ⟨hx, hb, hml, hown, hts⟩ (metX7_in l D kk _ (p1.toInt64) (0 : Int64) (3 : Int64) _ h) (va_cwS 3 hts (lw_S q1033 q1034 q71 q1035) rfl rfl rfl pdX7_in.2 ⟨(Nat.le_of_ble_eq_true rfl), (Nat.le_of_ble_eq_true rfl)⟩) (zp_S hK hN hP hD) rfl rfl hl.1 rfl (lv_room (Nat.le_of_ble_eq_true rfl)) dX7_read_6 ⟨(Nat.le_of_ble_eq_true rfl), (Nat.le_of_ble_eq_true rfl)⟩) (fun r_1 u H locs h hP hD hS => ?_)
  try dsimp only at h
  have hP : va_P D vwCl [zM am f, zA (kk 1) (am 1) 252 st, zA (kk 1) (am 10) 4 ln, zA (kk 1) (am 11) 4 lg, zA (kk 1) (am 12) 160 ce] H := hP
  have hD : va_D A [zM am f, zA (kk 1) (am 1) 252 st, zA (kk 1) (am 10) 4 ln, zA (kk 1) (am 11) 4 lg, zA (kk 1) (am 12) 160 ce] := hD
  refine lv_if_eq (tgt := 37) hx hb dX7_read_9 (by decide) (fun c_2 => ?_) (fun c_2 => ?_)
  · have h := h.1 c_2
    refine lv_iconst (v := (-1 : Int32)) hx hb dX7_read_37 (by decide) ?_
    exact zr_i hx hb hr hlk rfl hP hD hS (f, st) [0, 1, 2, 3, 4] rfl (by decide) dX7_read_38 h
  · have h := h.2 c_2
    refine lv_iload_n hx hb dX7_read_12 rfl (lv_at hl 2 rfl) ?_
    refine lv_i2l hx hb dX7_read_13 rfl ?_
    refine lv_lconst (v := (0 : Int64)) hx hb dX7_read_14 (by decide) ?_
    refine lv_ldc2 (v := (2 : Int64)) hx hb hown (hts _ q1197) dX7_read_15 ?_
    refine zc_i (wc := []) (wr := [zM am f, zA (kk 1) (am 1) 252 st, zA (kk 1) (am 10) 4 ln, zA (kk 1) (am 11) 4 lg, zA (kk 1) (am 12) 160 ce]) (w1 := (fun u : Unit => [])) (rest := []) [] [0, 1, 2, 3, 4] rfl rfl (by decide) (by decide) (by decide) hA hP hD hS (fun hP hD => va_runS (As := [.long (p2.toInt64), .long (0 : Int64), .long (2 : Int64)]) (rest := []) ⟨hx, hb, hml, hown, hts⟩ (metX7_in l D kk _ (p2.toInt64) (0 : Int64) (2 : Int64) _ h) (va_cwS 3 hts (lw_S q1033 q1034 q71 q1035) rfl rfl rfl pdX7_in.2 ⟨(Nat.le_of_ble_eq_true rfl), (Nat.le_of_ble_eq_true rfl)⟩) (zp_S hK hN hP hD) rfl rfl hl.1 rfl (lv_room (Nat.le_of_ble_eq_true rfl)) dX7_read_18 ⟨(Nat.le_of_ble_eq_true rfl), (Nat.le_of_ble_eq_true rfl)⟩) (fun r_3 u H locs h hP hD hS => ?_)
    try dsimp only at h
    have hP : va_P D vwCl [zM am f, zA (kk 1) (am 1) 252 st, zA (kk 1) (am 10) 4 ln, zA (kk 1) (am 11) 4 lg, zA (kk 1) (am 12) 160 ce] H := hP
    have hD : va_D A [zM am f, zA (kk 1) (am 1) 252 st, zA (kk 1) (am 10) 4 ln, zA (kk 1) (am 11) 4 lg, zA (kk 1) (am 12) 160 ce] := hD
    refine lv_if_eq (tgt := 37) hx hb dX7_read_21 (by decide) (fun c_4 => ?_) (fun c_4 => ?_)
    · have h := h.1 c_4
      refine lv_iconst (v := (-1 : Int32)) hx hb dX7_read_37 (by decide) ?_
      exact zr_i hx hb hr hlk rfl hP hD hS (f, st) [0, 1, 2, 3, 4] rfl (by decide) dX7_read_38 h
    · have h := h.2 c_4
      refine lv_iload hx hb dX7_read_24 (lv_at hl 4 rfl) ?_
      refine lv_i2l hx hb dX7_read_26 rfl ?_
      refine lv_lconst (v := (0 : Int64)) hx hb dX7_read_27 (by decide) ?_
      refine lv_ldc2 (v := (20 : Int64)) hx hb hown (hts _ q1146) dX7_read_28 ?_
      refine zc_i (wc := []) (wr := [zM am f, zA (kk 1) (am 1) 252 st, zA (kk 1) (am 10) 4 ln, zA (kk 1) (am 11) 4 lg, zA (kk 1) (am 12) 160 ce]) (w1 := (fun u : Unit => [])) (rest := []) [] [0, 1, 2, 3, 4] rfl rfl (by decide) (by decide) (by decide) hA hP hD hS (fun hP hD => va_runS (As := [.long (p4.toInt64), .long (0 : Int64), .long (20 : Int64)]) (rest := []) ⟨hx, hb, hml, hown, hts⟩ (metX7_in l D kk _ (p4.toInt64) (0 : Int64) (20 : Int64) _ h) (va_cwS 3 hts (lw_S q1033 q1034 q71 q1035) rfl rfl rfl pdX7_in.2 ⟨(Nat.le_of_ble_eq_true rfl), (Nat.le_of_ble_eq_true rfl)⟩) (zp_S hK hN hP hD) rfl rfl hl.1 rfl (lv_room (Nat.le_of_ble_eq_true rfl)) dX7_read_31 ⟨(Nat.le_of_ble_eq_true rfl), (Nat.le_of_ble_eq_true rfl)⟩) (fun r_5 u H locs h hP hD hS => ?_)
      try dsimp only at h
      have hP : va_P D vwCl [zM am f, zA (kk 1) (am 1) 252 st, zA (kk 1) (am 10) 4 ln, zA (kk 1) (am 11) 4 lg, zA (kk 1) (am 12) 160 ce] H := hP
      have hD : va_D A [zM am f, zA (kk 1) (am 1) 252 st, zA (kk 1) (am 10) 4 ln, zA (kk 1) (am 11) 4 lg, zA (kk 1) (am 12) 160 ce] := hD
      refine lv_if_ne (tgt := 39) hx hb dX7_read_34 (by decide) (fun c_6 => ?_) (fun c_6 => ?_)
      · have h := h.2 c_6
        refine lv_aload_n hx hb dX7_read_39 rfl (lv_at hl 0 rfl) ?_
        refine lv_iconst (v := (0 : Int32)) hx hb dX7_read_40 (by decide) ?_
        refine lv_bipush (v := (126 : Int32)) hx hb dX7_read_41 (by decide) ?_
        have hrc := va_recv hK hP (ci := 7) (q0 := 0) rfl rfl
        refine zc_v (wc := [zM am f, zA (kk 1) (am 1) 252 st]) (wr := [zA (kk 1) (am 10) 4 ln, zA (kk 1) (am 11) 4 lg, zA (kk 1) (am 12) 160 ce]) (w1 := (fun u : (Nat → Int32) => [zM am f, zA (kk 1) (am 1) 252 u])) (rest := []) [0, 1] [2, 3, 4] rfl rfl (by decide) (by decide) (by decide) hA hP hD hS (fun hP hD => va_runV (As := [.int (0 : Int32), .int (126 : Int32)]) (rest := []) ⟨hx, hb, hml, hown, hts⟩ (metX7_copies l D kk am _ f st (0 : Int32) (126 : Int32) _ h) (cwV 2 hts (lw_V q1189 q1191 qs57 q71 q1192) rfl rfl rfl pdX7_copies ⟨(Nat.le_of_ble_eq_true rfl), (Nat.le_of_ble_eq_true rfl)⟩) (zp_V hK hN hrc hP hD) rfl rfl hl.1 rfl (lv_room (Nat.le_of_ble_eq_true rfl)) dX7_read_43 ⟨(Nat.le_of_ble_eq_true rfl), (Nat.le_of_ble_eq_true rfl)⟩) (fun u H locs h hP hD hS => ?_)
        obtain ⟨st_8, rfl⟩ : ∃ z, z = u := ⟨_, rfl⟩
        try dsimp only at h
        have hP : va_P D vwCl [zA (kk 1) (am 10) 4 ln, zA (kk 1) (am 11) 4 lg, zA (kk 1) (am 12) 160 ce, zM am f, zA (kk 1) (am 1) 252 st_8] H := hP
        have hD : va_D A [zA (kk 1) (am 10) 4 ln, zA (kk 1) (am 11) 4 lg, zA (kk 1) (am 12) 160 ce, zM am f, zA (kk 1) (am 1) 252 st_8] := hD
        refine lv_iconst (v := (0 : Int32)) hx hb dX7_read_46 (by decide) ?_
        refine lv_istore (lv' := [(5, .int (0 : Int32)), (0, .ref (am 0)), (1, .int p1), (2, .int p2), (3, .int p3), (4, .int p4)]) hx hb dX7_read_47 hl (by decide) rfl (fun ls hl => ?_)
        refine lv_iconst (v := (0 : Int32)) hx hb dX7_read_49 (by decide) ?_
        refine lv_istore (lv' := [(6, .int (0 : Int32)), (5, .int (0 : Int32)), (0, .ref (am 0)), (1, .int p1), (2, .int p2), (3, .int p3), (4, .int p4)]) hx hb dX7_read_50 hl (by decide) rfl (fun ls hl => ?_)
        refine lv_iconst (v := (0 : Int32)) hx hb dX7_read_52 (by decide) ?_
        have cut_55 : ∀ (nl55 : Nat) (f : Nat → Int32) (st : Nat → Int32) (x5 : Int32) (x6 : Int32) (x7 : Int32), wpX7_read_55 ln lg ce p1 p2 p3 p4 Q  nl55 f st x5 x6 x7 → ∀ (H : Heap) (locs : List Loc), va_P D vwCl [zM am f, zA (kk 1) (am 1) 252 st, zA (kk 1) (am 10) 4 ln, zA (kk 1) (am 11) 4 lg, zA (kk 1) (am 12) 160 ce] H → va_D A [zM am f, zA (kk 1) (am 1) 252 st, zA (kk 1) (am 10) 4 ln, zA (kk 1) (am 11) 4 lg, zA (kk 1) (am 12) 160 ce] → va_S A s.heap H locs → ∀ ls : Array Slot, lv_has ls 9 [(5, .int x5), (6, .int x6), (7, .int x7), (0, .ref (am 0)), (1, .int p1), (2, .int p2), (3, .int p3), (4, .int p4)] → W p l e { frames := 4, cells := 0, slots := 0, locals := 91 } s m ([.ref (am 0), .int p1, .int p2, .int p3, .int p4] : List Value).toArray below meth c H locs 0 0 (MQ below (va_Qi (fun (r : Int32) (u : (Nat → Int32) × (Nat → Int32)) => Q r u.1 u.2) (zB D A (fun u : (Nat → Int32) × (Nat → Int32) => [zM am u.1, zA (kk 1) (am 1) 252 u.2, zA (kk 1) (am 10) 4 ln, zA (kk 1) (am 11) 4 lg, zA (kk 1) (am 12) 160 ce])) A) ([.ref (am 0), .int p1, .int p2, .int p3, .int p4] : List Value).toArray s 0 0 A) (F0 m 55 ls []) := by
          intro nl55
          induction nl55 with
          | zero => intro f st x5 x6 x7 h; exact absurd h id
          | succ nl55 ih_55 =>
            intro f st x5 x6 x7 h H locs hP hD hS ls hl
            have h : wbX7_read_55 ln lg ce p1 p2 p3 p4 Q  (wpX7_read_55 ln lg ce p1 p2 p3 p4 Q  nl55) f st x5 x6 x7 := h
            unfold wbX7_read_55 at h
            refine lv_iload hx hb dX7_read_55 (lv_at hl 2 rfl) ?_
            refine lv_iconst (v := (2 : Int32)) hx hb dX7_read_57 (by decide) ?_
            refine lv_iload hx hb dX7_read_58 (lv_at hl 7 rfl) ?_
            refine lv_imul hx hb dX7_read_60 ?_
            have cut_196 : ∀ (f : Nat → Int32) (st : Nat → Int32) (x5 : Int32) (x6 : Int32), wpX7_read_196 ln lg ce p1 p2 p3 p4 Q (wpX7_read_55 ln lg ce p1 p2 p3 p4 Q  nl55) f st x5 x6 → ∀ (H : Heap) (locs : List Loc), va_P D vwCl [zM am f, zA (kk 1) (am 1) 252 st, zA (kk 1) (am 10) 4 ln, zA (kk 1) (am 11) 4 lg, zA (kk 1) (am 12) 160 ce] H → va_D A [zM am f, zA (kk 1) (am 1) 252 st, zA (kk 1) (am 10) 4 ln, zA (kk 1) (am 11) 4 lg, zA (kk 1) (am 12) 160 ce] → va_S A s.heap H locs → ∀ ls : Array Slot, lv_has ls 9 [(5, .int x5), (6, .int x6), (0, .ref (am 0))] → W p l e { frames := 4, cells := 0, slots := 0, locals := 91 } s m ([.ref (am 0), .int p1, .int p2, .int p3, .int p4] : List Value).toArray below meth c H locs 0 0 (MQ below (va_Qi (fun (r : Int32) (u : (Nat → Int32) × (Nat → Int32)) => Q r u.1 u.2) (zB D A (fun u : (Nat → Int32) × (Nat → Int32) => [zM am u.1, zA (kk 1) (am 1) 252 u.2, zA (kk 1) (am 10) 4 ln, zA (kk 1) (am 11) 4 lg, zA (kk 1) (am 12) 160 ce])) A) ([.ref (am 0), .int p1, .int p2, .int p3, .int p4] : List Value).toArray s 0 0 A) (F0 m 196 ls []) := by
              intro f st x5 x6 h H locs hP hD hS ls hl
              unfold wpX7_read_196 at h
              refine lv_aload_n hx hb dX7_read_196 rfl (lv_at hl 2 rfl) ?_
              refine lv_iload hx hb dX7_read_197 (lv_at hl 0 rfl) ?_
              refine va_put (D := D) (ci := 7) (v := .int x5) (C := RX7) (T := TX7) (N := 29) hx hb hts in_X7 tyX7 tyX7_ok nmX7 hown hK hP hD hS 0 rfl rfl 28 (Nat.le_of_ble_eq_true rfl) (hts _ q967) (fun _ h9 => h9) rfl (tyX7_ok 28 (Nat.le_of_ble_eq_true rfl)) rfl rfl (Nat.le_of_ble_eq_true rfl) dX7_read_199 (fun H locs hP hD hS => ?_)
              have hP : va_P D vwCl [zM am (upd f 28 x5), zA (kk 1) (am 1) 252 st, zA (kk 1) (am 10) 4 ln, zA (kk 1) (am 11) 4 lg, zA (kk 1) (am 12) 160 ce] H := hP
              have hD : va_D A [zM am (upd f 28 x5), zA (kk 1) (am 1) 252 st, zA (kk 1) (am 10) 4 ln, zA (kk 1) (am 11) 4 lg, zA (kk 1) (am 12) 160 ce] := hD
              refine lv_iload hx hb dX7_read_202 (lv_at hl 1 rfl) ?_
              exact zr_i hx hb hr hlk rfl hP hD hS ((upd f 28 x5), st) [0, 1, 2, 3, 4] rfl (by decide) dX7_read_204 h
            refine lv_icmp_ge (tgt := 196) hx hb dX7_read_61 (by decide) (fun c_9 => ?_) (fun c_9 => ?_)
            · have h := h.1 c_9
              exact cut_196 f st x5 x6 h _ _ hP hD hS _ (lv_sub hl [0, 1, 3] rfl)
            · have h := h.2 c_9
              refine lv_iload hx hb dX7_read_64 (lv_at hl 0 rfl) ?_
              refine lv_if_ne (tgt := 196) hx hb dX7_read_66 (by decide) (fun c_10 => ?_) (fun c_10 => ?_)
              · have h := h.2 c_10
                exact cut_196 f st x5 x6 h _ _ hP hD hS _ (lv_sub hl [0, 1, 3] rfl)
              · have h := h.1 c_10
                refine lv_aload_n hx hb dX7_read_69 rfl (lv_at hl 3 rfl) ?_
                refine va_get (D := D) (ci := 7) (v := .ref (am 10)) (C := RX7) (T := TX7) (N := 29) hx hb hts in_X7 hown hK hP 0 rfl rfl 25 (Nat.le_of_ble_eq_true rfl) (hts _ q964) (fun _ h9 => h9) rfl dX7_read_70 ?_
                refine lv_iload_n hx hb dX7_read_73 rfl (lv_at hl 4 rfl) ?_
                obtain ⟨hin, h⟩ := h
                refine va_iald hx hb hK hP 2 1 rfl rfl hin dX7_read_74 ?_
                refine lv_bipush (v := (-4 : Int32)) hx hb dX7_read_75 (by decide) ?_
                have cut_125 : ∀ (f : Nat → Int32) (st : Nat → Int32) (x6 : Int32) (x7 : Int32) (s0 : Int32), wpX7_read_125 ln lg ce p1 p2 p3 p4 Q (wpX7_read_55 ln lg ce p1 p2 p3 p4 Q  nl55) f st x6 x7 s0 → ∀ (H : Heap) (locs : List Loc), va_P D vwCl [zM am f, zA (kk 1) (am 1) 252 st, zA (kk 1) (am 10) 4 ln, zA (kk 1) (am 11) 4 lg, zA (kk 1) (am 12) 160 ce] H → va_D A [zM am f, zA (kk 1) (am 1) 252 st, zA (kk 1) (am 10) 4 ln, zA (kk 1) (am 11) 4 lg, zA (kk 1) (am 12) 160 ce] → va_S A s.heap H locs → ∀ ls : Array Slot, lv_has ls 9 [(6, .int x6), (7, .int x7), (0, .ref (am 0)), (1, .int p1), (2, .int p2), (3, .int p3), (4, .int p4)] → W p l e { frames := 4, cells := 0, slots := 0, locals := 91 } s m ([.ref (am 0), .int p1, .int p2, .int p3, .int p4] : List Value).toArray below meth c H locs 0 0 (MQ below (va_Qi (fun (r : Int32) (u : (Nat → Int32) × (Nat → Int32)) => Q r u.1 u.2) (zB D A (fun u : (Nat → Int32) × (Nat → Int32) => [zM am u.1, zA (kk 1) (am 1) 252 u.2, zA (kk 1) (am 10) 4 ln, zA (kk 1) (am 11) 4 lg, zA (kk 1) (am 12) 160 ce])) A) ([.ref (am 0), .int p1, .int p2, .int p3, .int p4] : List Value).toArray s 0 0 A) (F0 m 125 ls [.int s0]) := by
                  intro f st x6 x7 s0 h H locs hP hD hS ls hl
                  unfold wpX7_read_125 at h
                  refine lv_istore (lv' := [(5, .int s0), (6, .int x6), (7, .int x7), (0, .ref (am 0)), (1, .int p1), (2, .int p2), (3, .int p3), (4, .int p4)]) hx hb dX7_read_125 hl (by decide) rfl (fun ls hl => ?_)
                  refine lv_iload hx hb dX7_read_127 (lv_at hl 0 rfl) ?_
                  have cut_190 : ∀ (f : Nat → Int32) (st : Nat → Int32) (x5 : Int32) (x6 : Int32) (x7 : Int32), wpX7_read_190 ln lg ce p1 p2 p3 p4 Q (wpX7_read_55 ln lg ce p1 p2 p3 p4 Q  nl55) f st x5 x6 x7 → ∀ (H : Heap) (locs : List Loc), va_P D vwCl [zM am f, zA (kk 1) (am 1) 252 st, zA (kk 1) (am 10) 4 ln, zA (kk 1) (am 11) 4 lg, zA (kk 1) (am 12) 160 ce] H → va_D A [zM am f, zA (kk 1) (am 1) 252 st, zA (kk 1) (am 10) 4 ln, zA (kk 1) (am 11) 4 lg, zA (kk 1) (am 12) 160 ce] → va_S A s.heap H locs → ∀ ls : Array Slot, lv_has ls 9 [(5, .int x5), (6, .int x6), (7, .int x7), (0, .ref (am 0)), (1, .int p1), (2, .int p2), (3, .int p3), (4, .int p4)] → W p l e { frames := 4, cells := 0, slots := 0, locals := 91 } s m ([.ref (am 0), .int p1, .int p2, .int p3, .int p4] : List Value).toArray below meth c H locs 0 0 (MQ below (va_Qi (fun (r : Int32) (u : (Nat → Int32) × (Nat → Int32)) => Q r u.1 u.2) (zB D A (fun u : (Nat → Int32) × (Nat → Int32) => [zM am u.1, zA (kk 1) (am 1) 252 u.2, zA (kk 1) (am 10) 4 ln, zA (kk 1) (am 11) 4 lg, zA (kk 1) (am 12) 160 ce])) A) ([.ref (am 0), .int p1, .int p2, .int p3, .int p4] : List Value).toArray s 0 0 A) (F0 m 190 ls []) := by
                    intro f st x5 x6 x7 h H locs hP hD hS ls hl
                    unfold wpX7_read_190 at h
                    refine lv_iinc (v := (x7 + 1)) (lv' := [(7, .int (x7 + 1)), (5, .int x5), (6, .int x6), (0, .ref (am 0)), (1, .int p1), (2, .int p2), (3, .int p3), (4, .int p4)]) hx hb dX7_read_190 hl (k := 2) rfl rfl (by decide) rfl (fun ls hl => ?_)
                    refine lv_goto (tgt := 55) hx hb dX7_read_193 (by decide) ?_
                    exact ih_55 f st x5 x6 (x7 + 1) h _ _ hP hD hS _ (lv_sub hl [1, 2, 0, 3, 4, 5, 6, 7] rfl)
                  refine lv_if_ne (tgt := 190) hx hb dX7_read_129 (by decide) (fun c_11 => ?_) (fun c_11 => ?_)
                  · have h := h.2 c_11
                    exact cut_190 f st s0 x6 x7 h _ _ hP hD hS _ (lv_sub hl [0, 1, 2, 3, 4, 5, 6, 7] rfl)
                  · have h := h.1 c_11
                    refine lv_iload hx hb dX7_read_132 (lv_at hl 2 rfl) ?_
                    refine lv_iconst (v := (2 : Int32)) hx hb dX7_read_134 (by decide) ?_
                    refine lv_irem hx hb dX7_read_135 (by decide) ?_
                    refine lv_iconst (v := (1 : Int32)) hx hb dX7_read_136 (by decide) ?_
                    refine lv_icmp_ne (tgt := 190) hx hb dX7_read_137 (by decide) (fun c_12 => ?_) (fun c_12 => ?_)
                    · have h := h.2 c_12
                      exact cut_190 f st s0 x6 x7 h _ _ hP hD hS _ (lv_sub hl [0, 1, 2, 3, 4, 5, 6, 7] rfl)
                    · have h := h.1 c_12
                      refine lv_bipush (v := (40 : Int32)) hx hb dX7_read_140 (by decide) ?_
                      refine lv_iload_n hx hb dX7_read_142 rfl (lv_at hl 4 rfl) ?_
                      refine lv_imul hx hb dX7_read_143 ?_
                      refine lv_iload_n hx hb dX7_read_144 rfl (lv_at hl 6 rfl) ?_
                      refine lv_iadd hx hb dX7_read_145 ?_
                      refine lv_iload hx hb dX7_read_146 (lv_at hl 2 rfl) ?_
                      refine lv_iadd hx hb dX7_read_148 ?_
                      refine lv_topi (fun x8_13 ex8_13 => ?_)
                      have h := h x8_13 ex8_13
                      refine lv_istore (lv' := [(8, .int x8_13), (5, .int s0), (6, .int x6), (7, .int x7), (0, .ref (am 0)), (1, .int p1), (2, .int p2), (3, .int p3), (4, .int p4)]) hx hb dX7_read_149 hl (by decide) rfl (fun ls hl => ?_)
                      refine lv_aload_n hx hb dX7_read_151 rfl (lv_at hl 4 rfl) ?_
                      refine lv_aload_n hx hb dX7_read_152 rfl (lv_at hl 4 rfl) ?_
                      refine va_get (D := D) (ci := 7) (v := .ref (am 12)) (C := RX7) (T := TX7) (N := 29) hx hb hts in_X7 hown hK hP 0 rfl rfl 27 (Nat.le_of_ble_eq_true rfl) (hts _ q966) (fun _ h9 => h9) rfl dX7_read_153 ?_
                      refine lv_iload hx hb dX7_read_156 (lv_at hl 0 rfl) ?_
                      refine lv_iconst (v := (1 : Int32)) hx hb dX7_read_158 (by decide) ?_
                      refine lv_isub hx hb dX7_read_159 ?_
                      obtain ⟨hin, h⟩ := h
                      refine va_iald hx hb hK hP 4 1 rfl rfl hin dX7_read_160 ?_
                      refine lv_aload_n hx hb dX7_read_161 rfl (lv_at hl 4 rfl) ?_
                      refine va_get (D := D) (ci := 7) (v := .ref (am 12)) (C := RX7) (T := TX7) (N := 29) hx hb hts in_X7 hown hK hP 0 rfl rfl 27 (Nat.le_of_ble_eq_true rfl) (hts _ q966) (fun _ h9 => h9) rfl dX7_read_162 ?_
                      refine lv_iload hx hb dX7_read_165 (lv_at hl 0 rfl) ?_
                      obtain ⟨hin, h⟩ := h
                      refine va_iald hx hb hK hP 4 1 rfl rfl hin dX7_read_167 ?_
                      have hrc := va_recv hK hP (ci := 7) (q0 := 0) rfl rfl
                      refine zc_i (wc := [zM am f, zA (kk 1) (am 1) 252 st]) (wr := [zA (kk 1) (am 10) 4 ln, zA (kk 1) (am 11) 4 lg, zA (kk 1) (am 12) 160 ce]) (w1 := (fun u : (Nat → Int32) => [zM am f, zA (kk 1) (am 1) 252 u])) (rest := []) [0, 1] [2, 3, 4] rfl rfl (by decide) (by decide) (by decide) hA hP hD hS (fun hP hD => va_runV (As := [.int (ce (x8_13 - (1 : Int32)).toNatClampNeg), .int (ce x8_13.toNatClampNeg)]) (rest := []) ⟨hx, hb, hml, hown, hts⟩ (metX7_books l D kk am _ f st (ce (x8_13 - (1 : Int32)).toNatClampNeg) (ce x8_13.toNatClampNeg) _ h) (cwV 2 hts (lw_V q1155 q1157 qs52 q71 q1158) rfl rfl rfl pdX7_books ⟨(Nat.le_of_ble_eq_true rfl), (Nat.le_of_ble_eq_true rfl)⟩) (zp_V hK hN hrc hP hD) rfl rfl hl.1 rfl (lv_room (Nat.le_of_ble_eq_true rfl)) dX7_read_168 ⟨(Nat.le_of_ble_eq_true rfl), (Nat.le_of_ble_eq_true rfl)⟩) (fun r_14 u H locs h hP hD hS => ?_)
                      obtain ⟨st_15, rfl⟩ : ∃ z, z = u := ⟨_, rfl⟩
                      try dsimp only at h
                      have hP : va_P D vwCl [zA (kk 1) (am 10) 4 ln, zA (kk 1) (am 11) 4 lg, zA (kk 1) (am 12) 160 ce, zM am f, zA (kk 1) (am 1) 252 st_15] H := hP
                      have hD : va_D A [zA (kk 1) (am 10) 4 ln, zA (kk 1) (am 11) 4 lg, zA (kk 1) (am 12) 160 ce, zM am f, zA (kk 1) (am 1) 252 st_15] := hD
                      refine lv_if_ge (tgt := 187) hx hb dX7_read_171 (by decide) (fun c_16 => ?_) (fun c_16 => ?_)
                      · have h := h.1 c_16
                        refine lv_iinc (v := (x6 + 1)) (lv' := [(6, .int (x6 + 1)), (8, .int x8_13), (5, .int s0), (7, .int x7), (0, .ref (am 0)), (1, .int p1), (2, .int p2), (3, .int p3), (4, .int p4)]) hx hb dX7_read_187 hl (k := 2) rfl rfl (by decide) rfl (fun ls hl => ?_)
                        exact cut_190 f st_15 s0 (x6 + 1) x7 h _ _ (hP.sub [3, 4, 0, 1, 2] rfl) (hD.sub [3, 4, 0, 1, 2] (by decide) rfl) hS _ (lv_sub hl [2, 0, 3, 4, 5, 6, 7, 8] rfl)
                      · have h := h.2 c_16
                        refine lv_aload_n hx hb dX7_read_174 rfl (lv_at hl 4 rfl) ?_
                        refine lv_bipush (v := (126 : Int32)) hx hb dX7_read_175 (by decide) ?_
                        refine lv_iconst (v := (0 : Int32)) hx hb dX7_read_177 (by decide) ?_
                        have hrc := va_recv hK hP (ci := 7) (q0 := 3) rfl rfl
                        refine zc_v (wc := [zM am f, zA (kk 1) (am 1) 252 st_15]) (wr := [zA (kk 1) (am 10) 4 ln, zA (kk 1) (am 11) 4 lg, zA (kk 1) (am 12) 160 ce]) (w1 := (fun u : (Nat → Int32) => [zM am f, zA (kk 1) (am 1) 252 u])) (rest := []) [3, 4] [0, 1, 2] rfl rfl (by decide) (by decide) (by decide) hA hP hD hS (fun hP hD => va_runV (As := [.int (126 : Int32), .int (0 : Int32)]) (rest := []) ⟨hx, hb, hml, hown, hts⟩ (metX7_copies l D kk am _ f st_15 (126 : Int32) (0 : Int32) _ h) (cwV 2 hts (lw_V q1189 q1191 qs57 q71 q1192) rfl rfl rfl pdX7_copies ⟨(Nat.le_of_ble_eq_true rfl), (Nat.le_of_ble_eq_true rfl)⟩) (zp_V hK hN hrc hP hD) rfl rfl hl.1 rfl (lv_room (Nat.le_of_ble_eq_true rfl)) dX7_read_178 ⟨(Nat.le_of_ble_eq_true rfl), (Nat.le_of_ble_eq_true rfl)⟩) (fun u H locs h hP hD hS => ?_)
                        obtain ⟨st_18, rfl⟩ : ∃ z, z = u := ⟨_, rfl⟩
                        try dsimp only at h
                        have hP : va_P D vwCl [zA (kk 1) (am 10) 4 ln, zA (kk 1) (am 11) 4 lg, zA (kk 1) (am 12) 160 ce, zM am f, zA (kk 1) (am 1) 252 st_18] H := hP
                        have hD : va_D A [zA (kk 1) (am 10) 4 ln, zA (kk 1) (am 11) 4 lg, zA (kk 1) (am 12) 160 ce, zM am f, zA (kk 1) (am 1) 252 st_18] := hD
                        refine lv_bipush (v := (-20 : Int32)) hx hb dX7_read_181 (by decide) ?_
                        refine lv_iload hx hb dX7_read_183 (lv_at hl 2 rfl) ?_
                        refine lv_isub hx hb dX7_read_185 ?_
                        exact zr_i hx hb hr hlk rfl hP hD hS (f, st_18) [3, 4, 0, 1, 2] rfl (by decide) dX7_read_186 h
                refine lv_icmp_ne (tgt := 84) hx hb dX7_read_77 (by decide) (fun c_19 => ?_) (fun c_19 => ?_)
                · have h := h.2 c_19
                  refine lv_aload_n hx hb dX7_read_84 rfl (lv_at hl 3 rfl) ?_
                  refine va_get (D := D) (ci := 7) (v := .ref (am 10)) (C := RX7) (T := TX7) (N := 29) hx hb hts in_X7 hown hK hP 0 rfl rfl 25 (Nat.le_of_ble_eq_true rfl) (hts _ q964) (fun _ h9 => h9) rfl dX7_read_85 ?_
                  refine lv_iload_n hx hb dX7_read_88 rfl (lv_at hl 4 rfl) ?_
                  obtain ⟨hin, h⟩ := h
                  refine va_iald hx hb hK hP 2 1 rfl rfl hin dX7_read_89 ?_
                  refine lv_iload_n hx hb dX7_read_90 rfl (lv_at hl 5 rfl) ?_
                  refine lv_icmp_eq (tgt := 98) hx hb dX7_read_91 (by decide) (fun c_20 => ?_) (fun c_20 => ?_)
                  · have h := h.1 c_20
                    refine lv_iload_n hx hb dX7_read_98 rfl (lv_at hl 6 rfl) ?_
                    refine lv_i2l hx hb dX7_read_99 rfl ?_
                    refine lv_iload hx hb dX7_read_100 (lv_at hl 2 rfl) ?_
                    refine lv_i2l hx hb dX7_read_102 rfl ?_
                    refine lv_ladd hx hb dX7_read_103 ?_
                    refine lv_lconst (v := (0 : Int64)) hx hb dX7_read_104 (by decide) ?_
                    refine lv_aload_n hx hb dX7_read_105 rfl (lv_at hl 3 rfl) ?_
                    refine va_get (D := D) (ci := 7) (v := .ref (am 11)) (C := RX7) (T := TX7) (N := 29) hx hb hts in_X7 hown hK hP 0 rfl rfl 26 (Nat.le_of_ble_eq_true rfl) (hts _ q965) (fun _ h9 => h9) rfl dX7_read_106 ?_
                    refine lv_iload_n hx hb dX7_read_109 rfl (lv_at hl 4 rfl) ?_
                    obtain ⟨hin, h⟩ := h
                    refine va_iald hx hb hK hP 3 1 rfl rfl hin dX7_read_110 ?_
                    refine lv_iconst (v := (1 : Int32)) hx hb dX7_read_111 (by decide) ?_
                    refine lv_isub hx hb dX7_read_112 ?_
                    refine lv_i2l hx hb dX7_read_113 rfl ?_
                    refine zc_i (wc := []) (wr := [zM am f, zA (kk 1) (am 1) 252 st, zA (kk 1) (am 10) 4 ln, zA (kk 1) (am 11) 4 lg, zA (kk 1) (am 12) 160 ce]) (w1 := (fun u : Unit => [])) (rest := []) [] [0, 1, 2, 3, 4] rfl rfl (by decide) (by decide) (by decide) hA hP hD hS (fun hP hD => va_runS (As := [.long ((p3.toInt64) + (x7.toInt64)), .long (0 : Int64), .long (((lg p1.toNatClampNeg) - (1 : Int32)).toInt64)]) (rest := []) ⟨hx, hb, hml, hown, hts⟩ (metX7_in l D kk _ ((p3.toInt64) + (x7.toInt64)) (0 : Int64) (((lg p1.toNatClampNeg) - (1 : Int32)).toInt64) _ h) (va_cwS 3 hts (lw_S q1033 q1034 q71 q1035) rfl rfl rfl pdX7_in.2 ⟨(Nat.le_of_ble_eq_true rfl), (Nat.le_of_ble_eq_true rfl)⟩) (zp_S hK hN hP hD) rfl rfl hl.1 rfl (lv_room (Nat.le_of_ble_eq_true rfl)) dX7_read_114 ⟨(Nat.le_of_ble_eq_true rfl), (Nat.le_of_ble_eq_true rfl)⟩) (fun r_21 u H locs h hP hD hS => ?_)
                    try dsimp only at h
                    have hP : va_P D vwCl [zM am f, zA (kk 1) (am 1) 252 st, zA (kk 1) (am 10) 4 ln, zA (kk 1) (am 11) 4 lg, zA (kk 1) (am 12) 160 ce] H := hP
                    have hD : va_D A [zM am f, zA (kk 1) (am 1) 252 st, zA (kk 1) (am 10) 4 ln, zA (kk 1) (am 11) 4 lg, zA (kk 1) (am 12) 160 ce] := hD
                    refine lv_if_ne (tgt := 124) hx hb dX7_read_117 (by decide) (fun c_22 => ?_) (fun c_22 => ?_)
                    · have h := h.2 c_22
                      refine lv_iconst (v := (0 : Int32)) hx hb dX7_read_124 (by decide) ?_
                      exact cut_125 f st x6 x7 (0 : Int32) h _ _ hP hD hS _ (lv_sub hl [1, 2, 3, 4, 5, 6, 7] rfl)
                    · have h := h.1 c_22
                      refine lv_iconst (v := (2 : Int32)) hx hb dX7_read_120 (by decide) ?_
                      refine lv_goto (tgt := 125) hx hb dX7_read_121 (by decide) ?_
                      exact cut_125 f st x6 x7 (2 : Int32) h _ _ hP hD hS _ (lv_sub hl [1, 2, 3, 4, 5, 6, 7] rfl)
                  · have h := h.2 c_20
                    refine lv_iconst (v := (3 : Int32)) hx hb dX7_read_94 (by decide) ?_
                    refine lv_goto (tgt := 125) hx hb dX7_read_95 (by decide) ?_
                    exact cut_125 f st x6 x7 (3 : Int32) h _ _ hP hD hS _ (lv_sub hl [1, 2, 3, 4, 5, 6, 7] rfl)
                · have h := h.1 c_19
                  refine lv_iconst (v := (1 : Int32)) hx hb dX7_read_80 (by decide) ?_
                  refine lv_goto (tgt := 125) hx hb dX7_read_81 (by decide) ?_
                  exact cut_125 f st x6 x7 (1 : Int32) h _ _ hP hD hS _ (lv_sub hl [1, 2, 3, 4, 5, 6, 7] rfl)
        refine lv_istore (lv' := [(7, .int (0 : Int32)), (6, .int (0 : Int32)), (5, .int (0 : Int32)), (0, .ref (am 0)), (1, .int p1), (2, .int p2), (3, .int p3), (4, .int p4)]) hx hb dX7_read_53 hl (by decide) rfl (fun ls hl => ?_)
        obtain ⟨n_55, h⟩ := h
        exact cut_55 n_55 f st_8 (0 : Int32) (0 : Int32) (0 : Int32) h _ _ (hP.sub [3, 4, 0, 1, 2] rfl) (hD.sub [3, 4, 0, 1, 2] (by decide) rfl) hS _ (lv_sub hl [2, 1, 0, 3, 4, 5, 6, 7] rfl)
      · have h := h.1 c_6
        refine lv_iconst (v := (-1 : Int32)) hx hb dX7_read_37 (by decide) ?_
        exact zr_i hx hb hr hlk rfl hP hD hS (f, st) [0, 1, 2, 3, 4] rfl (by decide) dX7_read_38 h
def wpX7_torn (f : Nat → Int32) (Q : Int32 → Prop) : Prop :=
  Q (f 28)
set_option maxHeartbeats 4000000 in
theorem metX7_torn (l : Launch) (D : va_G) (kk : Nat → ClassId) (am : Nat → Nat) (sz : Nat) (f : Nat → Int32) (Q : Int32 → Prop) (h : wpX7_torn f Q) : Met l yX7_torn (ws_ yX7_torn cX7_torn 1 (some .int)) { frames := 0, cells := 0, slots := 0, locals := 0 } (va_Pc ([.ref (am 0)] : List Value) (zPc D kk [zM am f] sz)) (va_Qi (fun (r : Int32) (u : Unit) => Q r ) (zB D (va_A [zM am f] sz) (fun u : Unit => [zM am f])) (va_A [zM am f] sz)) 0 0 (va_A [zM am f] sz) := by
  refine zMet (Qc := fun A => va_Qi (fun (r : Int32) (u : Unit) => Q r ) (zB D A (fun u : Unit => [zM am f])) A) (by decide) (Nat.le_of_ble_eq_true rfl) ?_
  intro p e s m below meth c A X hP hD hS ls hl
  obtain ⟨hx, hb, hr, hml, hown, hts, hlk, hnm, hK, hN, hA⟩ := X
  have hown : s.vm.findClass "LoseLeagueModel" = some m.cls := hown
  have hl : lv_has ls 1 [(0, .ref (am 0))] := hl
  unfold wpX7_torn at h
  refine lv_aload_n hx hb dX7_torn_0 rfl (lv_at hl 0 rfl) ?_
  refine va_get (D := D) (ci := 7) (v := .int (f 28)) (C := RX7) (T := TX7) (N := 29) hx hb hts in_X7 hown hK hP 0 rfl rfl 28 (Nat.le_of_ble_eq_true rfl) (hts _ q967) (fun _ h9 => h9) rfl dX7_torn_1 ?_
  exact zr_i hx hb hr hlk rfl hP hD hS () [0] rfl (by decide) dX7_torn_4 h
def wpX7_count_121 (f : Nat → Int32) (st : Nat → Int32) (ik : Nat → Int32) (ln : Nat → Int32) (lg : Nat → Int32) (p1 : Int32) (Q : Int32 → Prop) (k7 : Int32 → Int32 → Int32 → Prop) (s1 : Int32) (s0 : Int32) : Prop :=
  Q (s0 + s1)
def wpX7_count_107 (f : Nat → Int32) (st : Nat → Int32) (ik : Nat → Int32) (ln : Nat → Int32) (lg : Nat → Int32) (p1 : Int32) (Q : Int32 → Prop) (k7 : Int32 → Int32 → Int32 → Prop) (s0 : Int32) : Prop :=
  (((ik (1 : Int32).toNatClampNeg) = 0 → wpX7_count_121 f st ik ln lg p1 Q k7 (0 : Int32) s0) ∧ (¬ (ik (1 : Int32).toNatClampNeg) = 0 → wpX7_count_121 f st ik ln lg p1 Q k7 (1 : Int32) s0))
def wbX7_count_7 (f : Nat → Int32) (st : Nat → Int32) (ik : Nat → Int32) (ln : Nat → Int32) (lg : Nat → Int32) (p1 : Int32) (Q : Int32 → Prop) (k7 : Int32 → Int32 → Int32 → Prop) (x2 : Int32) (x3 : Int32) (x4 : Int32) : Prop :=
  (((f 1) ≤ x4 → ((p1 = 0 → Q (f 22)) ∧ (¬ p1 = 0 → ((p1 = 1 → (((ik (0 : Int32).toNatClampNeg) = 0 → wpX7_count_107 f st ik ln lg p1 Q k7 (0 : Int32)) ∧ (¬ (ik (0 : Int32).toNatClampNeg) = 0 → wpX7_count_107 f st ik ln lg p1 Q k7 (1 : Int32)))) ∧ (¬ p1 = 1 → ((p1 = 2 → Q (f 6)) ∧ (¬ p1 = 2 → ((p1 = 3 → (((ln (0 : Int32).toNatClampNeg) = (-4 : Int32) → Q (-4 : Int32)) ∧ (¬ (ln (0 : Int32).toNatClampNeg) = (-4 : Int32) → Q (lg (0 : Int32).toNatClampNeg)))) ∧ (¬ p1 = 3 → ((p1 = 4 → Q x2) ∧ (¬ p1 = 4 → ((p1 = 5 → Q x3) ∧ (¬ p1 = 5 → Q (-1 : Int32)))))))))))))) ∧ (¬ (f 1) ≤ x4 → (vp_in ((5 : Int32) + x4) 252 ∧ (∀ x2_6 : Int32, x2_6 = (x2 + (st ((5 : Int32) + x4).toNatClampNeg)) → (vp_in ((10 : Int32) + x4) 252 ∧ (∀ x3_7 : Int32, x3_7 = (x3 + (st ((10 : Int32) + x4).toNatClampNeg)) → k7 x2_6 x3_7 (x4 + 1)))))))
def wpX7_count_7 (f : Nat → Int32) (st : Nat → Int32) (ik : Nat → Int32) (ln : Nat → Int32) (lg : Nat → Int32) (p1 : Int32) (Q : Int32 → Prop) (n : Nat) : Int32 → Int32 → Int32 → Prop :=
  Nat.rec (motive := fun _ => Int32 → Int32 → Int32 → Prop) (fun _ _ _ => False) (fun _ k => wbX7_count_7 f st ik ln lg p1 Q  k) n
def wpX7_count (f : Nat → Int32) (st : Nat → Int32) (ik : Nat → Int32) (ln : Nat → Int32) (lg : Nat → Int32) (p1 : Int32) (Q : Int32 → Prop) : Prop :=
  (∃ n : Nat, wpX7_count_7 f st ik ln lg p1 Q  n (0 : Int32) (0 : Int32) (0 : Int32))
set_option maxHeartbeats 4000000 in
theorem metX7_count (l : Launch) (D : va_G) (kk : Nat → ClassId) (am : Nat → Nat) (sz : Nat) (f : Nat → Int32) (st : Nat → Int32) (ik : Nat → Int32) (ln : Nat → Int32) (lg : Nat → Int32) (p1 : Int32) (Q : Int32 → Prop) (h : wpX7_count f st ik ln lg p1 Q) : Met l yX7_count (ws_ yX7_count cX7_count 5 (some .int)) { frames := 0, cells := 0, slots := 0, locals := 0 } (va_Pc ([.ref (am 0), .int p1] : List Value) (zPc D kk [zM am f, zA (kk 1) (am 1) 252 st, zA (kk 2) (am 9) 2 ik, zA (kk 1) (am 10) 4 ln, zA (kk 1) (am 11) 4 lg] sz)) (va_Qi (fun (r : Int32) (u : Unit) => Q r ) (zB D (va_A [zM am f, zA (kk 1) (am 1) 252 st, zA (kk 2) (am 9) 2 ik, zA (kk 1) (am 10) 4 ln, zA (kk 1) (am 11) 4 lg] sz) (fun u : Unit => [zM am f, zA (kk 1) (am 1) 252 st, zA (kk 2) (am 9) 2 ik, zA (kk 1) (am 10) 4 ln, zA (kk 1) (am 11) 4 lg])) (va_A [zM am f, zA (kk 1) (am 1) 252 st, zA (kk 2) (am 9) 2 ik, zA (kk 1) (am 10) 4 ln, zA (kk 1) (am 11) 4 lg] sz)) 0 0 (va_A [zM am f, zA (kk 1) (am 1) 252 st, zA (kk 2) (am 9) 2 ik, zA (kk 1) (am 10) 4 ln, zA (kk 1) (am 11) 4 lg] sz) := by
  refine zMet (Qc := fun A => va_Qi (fun (r : Int32) (u : Unit) => Q r ) (zB D A (fun u : Unit => [zM am f, zA (kk 1) (am 1) 252 st, zA (kk 2) (am 9) 2 ik, zA (kk 1) (am 10) 4 ln, zA (kk 1) (am 11) 4 lg])) A) (by decide) (Nat.le_of_ble_eq_true rfl) ?_
  intro p e s m below meth c A X hP hD hS ls hl
  obtain ⟨hx, hb, hr, hml, hown, hts, hlk, hnm, hK, hN, hA⟩ := X
  have hown : s.vm.findClass "LoseLeagueModel" = some m.cls := hown
  have hl : lv_has ls 5 [(0, .ref (am 0)), (1, .int p1)] := hl
  unfold wpX7_count at h
  refine lv_iconst (v := (0 : Int32)) hx hb dX7_count_0 (by decide) ?_
  refine lv_istore_n (lv' := [(2, .int (0 : Int32)), (0, .ref (am 0)), (1, .int p1)]) hx hb dX7_count_1 rfl hl (by decide) rfl (fun ls hl => ?_)
  refine lv_iconst (v := (0 : Int32)) hx hb dX7_count_2 (by decide) ?_
  refine lv_istore_n (lv' := [(3, .int (0 : Int32)), (2, .int (0 : Int32)), (0, .ref (am 0)), (1, .int p1)]) hx hb dX7_count_3 rfl hl (by decide) rfl (fun ls hl => ?_)
  refine lv_iconst (v := (0 : Int32)) hx hb dX7_count_4 (by decide) ?_
  have cut_7 : ∀ (nl7 : Nat) (x2 : Int32) (x3 : Int32) (x4 : Int32), wpX7_count_7 f st ik ln lg p1 Q  nl7 x2 x3 x4 → ∀ (H : Heap) (locs : List Loc), va_P D vwCl [zM am f, zA (kk 1) (am 1) 252 st, zA (kk 2) (am 9) 2 ik, zA (kk 1) (am 10) 4 ln, zA (kk 1) (am 11) 4 lg] H → va_D A [zM am f, zA (kk 1) (am 1) 252 st, zA (kk 2) (am 9) 2 ik, zA (kk 1) (am 10) 4 ln, zA (kk 1) (am 11) 4 lg] → va_S A s.heap H locs → ∀ ls : Array Slot, lv_has ls 5 [(2, .int x2), (3, .int x3), (4, .int x4), (0, .ref (am 0)), (1, .int p1)] → W p l e { frames := 0, cells := 0, slots := 0, locals := 0 } s m ([.ref (am 0), .int p1] : List Value).toArray below meth c H locs 0 0 (MQ below (va_Qi (fun (r : Int32) (u : Unit) => Q r ) (zB D A (fun u : Unit => [zM am f, zA (kk 1) (am 1) 252 st, zA (kk 2) (am 9) 2 ik, zA (kk 1) (am 10) 4 ln, zA (kk 1) (am 11) 4 lg])) A) ([.ref (am 0), .int p1] : List Value).toArray s 0 0 A) (F0 m 7 ls []) := by
    intro nl7
    induction nl7 with
    | zero => intro x2 x3 x4 h; exact absurd h id
    | succ nl7 ih_7 =>
      intro x2 x3 x4 h H locs hP hD hS ls hl
      have h : wbX7_count_7 f st ik ln lg p1 Q  (wpX7_count_7 f st ik ln lg p1 Q  nl7) x2 x3 x4 := h
      unfold wbX7_count_7 at h
      refine lv_iload hx hb dX7_count_7 (lv_at hl 2 rfl) ?_
      refine lv_aload_n hx hb dX7_count_9 rfl (lv_at hl 3 rfl) ?_
      refine va_get (D := D) (ci := 7) (v := .int (f 1)) (C := RX7) (T := TX7) (N := 29) hx hb hts in_X7 hown hK hP 0 rfl rfl 1 (Nat.le_of_ble_eq_true rfl) (hts _ q940) (fun _ h9 => h9) rfl dX7_count_10 ?_
      refine lv_icmp_ge (tgt := 47) hx hb dX7_count_13 (by decide) (fun c_1 => ?_) (fun c_1 => ?_)
      · have h := h.1 c_1
        refine lv_iload_n hx hb dX7_count_47 rfl (lv_at hl 4 rfl) ?_
        by_cases c_2_0 : p1 = 0
        · have h := h.1 c_2_0
          refine lv_tableIn (tgt := 88) hx hb dX7_count_48 (by rw [c_2_0]; decide) (by rw [c_2_0]; decide) (by rw [c_2_0]; rfl) (by decide) ?_
          refine lv_aload_n hx hb dX7_count_88 rfl (lv_at hl 3 rfl) ?_
          refine va_get (D := D) (ci := 7) (v := .int (f 22)) (C := RX7) (T := TX7) (N := 29) hx hb hts in_X7 hown hK hP 0 rfl rfl 22 (Nat.le_of_ble_eq_true rfl) (hts _ q961) (fun _ h9 => h9) rfl dX7_count_89 ?_
          exact zr_i hx hb hr hlk rfl hP hD hS () [0, 1, 2, 3, 4] rfl (by decide) dX7_count_92 h
        have h := h.2 c_2_0
        have nc_2_0 : ¬ p1.toInt = 0 := lv_neT c_2_0 rfl
        by_cases c_2_1 : p1 = 1
        · have h := h.1 c_2_1
          refine lv_tableIn (tgt := 93) hx hb dX7_count_48 (by rw [c_2_1]; decide) (by rw [c_2_1]; decide) (by rw [c_2_1]; rfl) (by decide) ?_
          refine lv_aload_n hx hb dX7_count_93 rfl (lv_at hl 3 rfl) ?_
          refine va_get (D := D) (ci := 7) (v := .ref (am 9)) (C := RX7) (T := TX7) (N := 29) hx hb hts in_X7 hown hK hP 0 rfl rfl 24 (Nat.le_of_ble_eq_true rfl) (hts _ q963) (fun _ h9 => h9) rfl dX7_count_94 ?_
          refine lv_iconst (v := (0 : Int32)) hx hb dX7_count_97 (by decide) ?_
          refine va_zald hx hb hK hP 2 2 rfl rfl (by unfold vp_in; decide) dX7_count_98 ?_
          have cut_107 : ∀ (s0 : Int32), wpX7_count_107 f st ik ln lg p1 Q (wpX7_count_7 f st ik ln lg p1 Q  nl7) s0 → ∀ (H : Heap) (locs : List Loc), va_P D vwCl [zM am f, zA (kk 1) (am 1) 252 st, zA (kk 2) (am 9) 2 ik, zA (kk 1) (am 10) 4 ln, zA (kk 1) (am 11) 4 lg] H → va_D A [zM am f, zA (kk 1) (am 1) 252 st, zA (kk 2) (am 9) 2 ik, zA (kk 1) (am 10) 4 ln, zA (kk 1) (am 11) 4 lg] → va_S A s.heap H locs → ∀ ls : Array Slot, lv_has ls 5 [(0, .ref (am 0))] → W p l e { frames := 0, cells := 0, slots := 0, locals := 0 } s m ([.ref (am 0), .int p1] : List Value).toArray below meth c H locs 0 0 (MQ below (va_Qi (fun (r : Int32) (u : Unit) => Q r ) (zB D A (fun u : Unit => [zM am f, zA (kk 1) (am 1) 252 st, zA (kk 2) (am 9) 2 ik, zA (kk 1) (am 10) 4 ln, zA (kk 1) (am 11) 4 lg])) A) ([.ref (am 0), .int p1] : List Value).toArray s 0 0 A) (F0 m 107 ls [.int s0]) := by
            intro s0 h H locs hP hD hS ls hl
            unfold wpX7_count_107 at h
            refine lv_aload_n hx hb dX7_count_107 rfl (lv_at hl 0 rfl) ?_
            refine va_get (D := D) (ci := 7) (v := .ref (am 9)) (C := RX7) (T := TX7) (N := 29) hx hb hts in_X7 hown hK hP 0 rfl rfl 24 (Nat.le_of_ble_eq_true rfl) (hts _ q963) (fun _ h9 => h9) rfl dX7_count_108 ?_
            refine lv_iconst (v := (1 : Int32)) hx hb dX7_count_111 (by decide) ?_
            refine va_zald hx hb hK hP 2 2 rfl rfl (by unfold vp_in; decide) dX7_count_112 ?_
            have cut_121 : ∀ (s1 : Int32) (s0 : Int32), wpX7_count_121 f st ik ln lg p1 Q (wpX7_count_7 f st ik ln lg p1 Q  nl7) s1 s0 → ∀ (H : Heap) (locs : List Loc), va_P D vwCl [zM am f, zA (kk 1) (am 1) 252 st, zA (kk 2) (am 9) 2 ik, zA (kk 1) (am 10) 4 ln, zA (kk 1) (am 11) 4 lg] H → va_D A [zM am f, zA (kk 1) (am 1) 252 st, zA (kk 2) (am 9) 2 ik, zA (kk 1) (am 10) 4 ln, zA (kk 1) (am 11) 4 lg] → va_S A s.heap H locs → ∀ ls : Array Slot, lv_has ls 5 [] → W p l e { frames := 0, cells := 0, slots := 0, locals := 0 } s m ([.ref (am 0), .int p1] : List Value).toArray below meth c H locs 0 0 (MQ below (va_Qi (fun (r : Int32) (u : Unit) => Q r ) (zB D A (fun u : Unit => [zM am f, zA (kk 1) (am 1) 252 st, zA (kk 2) (am 9) 2 ik, zA (kk 1) (am 10) 4 ln, zA (kk 1) (am 11) 4 lg])) A) ([.ref (am 0), .int p1] : List Value).toArray s 0 0 A) (F0 m 121 ls [.int s1, .int s0]) := by
              intro s1 s0 h H locs hP hD hS ls hl
              unfold wpX7_count_121 at h
              refine lv_iadd hx hb dX7_count_121 ?_
              exact zr_i hx hb hr hlk rfl hP hD hS () [0, 1, 2, 3, 4] rfl (by decide) dX7_count_122 h
            refine lv_if_eq (tgt := 120) hx hb dX7_count_113 (by decide) (fun c_3 => ?_) (fun c_3 => ?_)
            · have h := h.1 c_3
              refine lv_iconst (v := (0 : Int32)) hx hb dX7_count_120 (by decide) ?_
              exact cut_121 (0 : Int32) s0 h _ _ hP hD hS _ (lv_sub hl [] rfl)
            · have h := h.2 c_3
              refine lv_iconst (v := (1 : Int32)) hx hb dX7_count_116 (by decide) ?_
              refine lv_goto (tgt := 121) hx hb dX7_count_117 (by decide) ?_
              exact cut_121 (1 : Int32) s0 h _ _ hP hD hS _ (lv_sub hl [] rfl)
          refine lv_if_eq (tgt := 106) hx hb dX7_count_99 (by decide) (fun c_4 => ?_) (fun c_4 => ?_)
          · have h := h.1 c_4
            refine lv_iconst (v := (0 : Int32)) hx hb dX7_count_106 (by decide) ?_
            exact cut_107 (0 : Int32) h _ _ hP hD hS _ (lv_sub hl [3] rfl)
          · have h := h.2 c_4
            refine lv_iconst (v := (1 : Int32)) hx hb dX7_count_102 (by decide) ?_
            refine lv_goto (tgt := 107) hx hb dX7_count_103 (by decide) ?_
            exact cut_107 (1 : Int32) h _ _ hP hD hS _ (lv_sub hl [3] rfl)
        have h := h.2 c_2_1
        have nc_2_1 : ¬ p1.toInt = 1 := lv_neT c_2_1 rfl
        by_cases c_2_2 : p1 = 2
        · have h := h.1 c_2_2
          refine lv_tableIn (tgt := 123) hx hb dX7_count_48 (by rw [c_2_2]; decide) (by rw [c_2_2]; decide) (by rw [c_2_2]; rfl) (by decide) ?_
          refine lv_aload_n hx hb dX7_count_123 rfl (lv_at hl 3 rfl) ?_
          refine va_get (D := D) (ci := 7) (v := .int (f 6)) (C := RX7) (T := TX7) (N := 29) hx hb hts in_X7 hown hK hP 0 rfl rfl 6 (Nat.le_of_ble_eq_true rfl) (hts _ q945) (fun _ h9 => h9) rfl dX7_count_124 ?_
          exact zr_i hx hb hr hlk rfl hP hD hS () [0, 1, 2, 3, 4] rfl (by decide) dX7_count_127 h
        have h := h.2 c_2_2
        have nc_2_2 : ¬ p1.toInt = 2 := lv_neT c_2_2 rfl
        by_cases c_2_3 : p1 = 3
        · have h := h.1 c_2_3
          refine lv_tableIn (tgt := 128) hx hb dX7_count_48 (by rw [c_2_3]; decide) (by rw [c_2_3]; decide) (by rw [c_2_3]; rfl) (by decide) ?_
          refine lv_aload_n hx hb dX7_count_128 rfl (lv_at hl 3 rfl) ?_
          refine va_get (D := D) (ci := 7) (v := .ref (am 10)) (C := RX7) (T := TX7) (N := 29) hx hb hts in_X7 hown hK hP 0 rfl rfl 25 (Nat.le_of_ble_eq_true rfl) (hts _ q964) (fun _ h9 => h9) rfl dX7_count_129 ?_
          refine lv_iconst (v := (0 : Int32)) hx hb dX7_count_132 (by decide) ?_
          refine va_iald hx hb hK hP 3 1 rfl rfl (by unfold vp_in; decide) dX7_count_133 ?_
          refine lv_bipush (v := (-4 : Int32)) hx hb dX7_count_134 (by decide) ?_
          refine lv_icmp_ne (tgt := 144) hx hb dX7_count_136 (by decide) (fun c_5 => ?_) (fun c_5 => ?_)
          · have h := h.2 c_5
            refine lv_aload_n hx hb dX7_count_144 rfl (lv_at hl 3 rfl) ?_
            refine va_get (D := D) (ci := 7) (v := .ref (am 11)) (C := RX7) (T := TX7) (N := 29) hx hb hts in_X7 hown hK hP 0 rfl rfl 26 (Nat.le_of_ble_eq_true rfl) (hts _ q965) (fun _ h9 => h9) rfl dX7_count_145 ?_
            refine lv_iconst (v := (0 : Int32)) hx hb dX7_count_148 (by decide) ?_
            refine va_iald hx hb hK hP 4 1 rfl rfl (by unfold vp_in; decide) dX7_count_149 ?_
            exact zr_i hx hb hr hlk rfl hP hD hS () [0, 1, 2, 3, 4] rfl (by decide) dX7_count_150 h
          · have h := h.1 c_5
            refine lv_bipush (v := (-4 : Int32)) hx hb dX7_count_139 (by decide) ?_
            refine lv_goto (tgt := 150) hx hb dX7_count_141 (by decide) ?_
            exact zr_i hx hb hr hlk rfl hP hD hS () [0, 1, 2, 3, 4] rfl (by decide) dX7_count_150 h
        have h := h.2 c_2_3
        have nc_2_3 : ¬ p1.toInt = 3 := lv_neT c_2_3 rfl
        by_cases c_2_4 : p1 = 4
        · have h := h.1 c_2_4
          refine lv_tableIn (tgt := 151) hx hb dX7_count_48 (by rw [c_2_4]; decide) (by rw [c_2_4]; decide) (by rw [c_2_4]; rfl) (by decide) ?_
          refine lv_iload_n hx hb dX7_count_151 rfl (lv_at hl 0 rfl) ?_
          exact zr_i hx hb hr hlk rfl hP hD hS () [0, 1, 2, 3, 4] rfl (by decide) dX7_count_152 h
        have h := h.2 c_2_4
        have nc_2_4 : ¬ p1.toInt = 4 := lv_neT c_2_4 rfl
        by_cases c_2_5 : p1 = 5
        · have h := h.1 c_2_5
          refine lv_tableIn (tgt := 153) hx hb dX7_count_48 (by rw [c_2_5]; decide) (by rw [c_2_5]; decide) (by rw [c_2_5]; rfl) (by decide) ?_
          refine lv_iload_n hx hb dX7_count_153 rfl (lv_at hl 1 rfl) ?_
          exact zr_i hx hb hr hlk rfl hP hD hS () [0, 1, 2, 3, 4] rfl (by decide) dX7_count_154 h
        have h := h.2 c_2_5
        have nc_2_5 : ¬ p1.toInt = 5 := lv_neT c_2_5 rfl
        refine lv_tableOut (tgt := 155) hx hb dX7_count_48 (by omega) (by decide) ?_
        refine lv_iconst (v := (-1 : Int32)) hx hb dX7_count_155 (by decide) ?_
        exact zr_i hx hb hr hlk rfl hP hD hS () [0, 1, 2, 3, 4] rfl (by decide) dX7_count_156 h
      · have h := h.2 c_1
        refine lv_iload_n hx hb dX7_count_16 rfl (lv_at hl 0 rfl) ?_
        refine lv_aload_n hx hb dX7_count_17 rfl (lv_at hl 3 rfl) ?_
        refine va_get (D := D) (ci := 7) (v := .ref (am 1)) (C := RX7) (T := TX7) (N := 29) hx hb hts in_X7 hown hK hP 0 rfl rfl 0 (Nat.le_of_ble_eq_true rfl) (hts _ q939) (fun _ h9 => h9) rfl dX7_count_18 ?_
        refine lv_iconst (v := (5 : Int32)) hx hb dX7_count_21 (by decide) ?_
        refine lv_iload hx hb dX7_count_22 (lv_at hl 2 rfl) ?_
        refine lv_iadd hx hb dX7_count_24 ?_
        obtain ⟨hin, h⟩ := h
        refine va_iald hx hb hK hP 1 1 rfl rfl hin dX7_count_25 ?_
        refine lv_iadd hx hb dX7_count_26 ?_
        refine lv_topi (fun x2_6 ex2_6 => ?_)
        have h := h x2_6 ex2_6
        refine lv_istore_n (lv' := [(2, .int x2_6), (3, .int x3), (4, .int x4), (0, .ref (am 0)), (1, .int p1)]) hx hb dX7_count_27 rfl hl (by decide) rfl (fun ls hl => ?_)
        refine lv_iload_n hx hb dX7_count_28 rfl (lv_at hl 1 rfl) ?_
        refine lv_aload_n hx hb dX7_count_29 rfl (lv_at hl 3 rfl) ?_
        refine va_get (D := D) (ci := 7) (v := .ref (am 1)) (C := RX7) (T := TX7) (N := 29) hx hb hts in_X7 hown hK hP 0 rfl rfl 0 (Nat.le_of_ble_eq_true rfl) (hts _ q939) (fun _ h9 => h9) rfl dX7_count_30 ?_
        refine lv_bipush (v := (10 : Int32)) hx hb dX7_count_33 (by decide) ?_
        refine lv_iload hx hb dX7_count_35 (lv_at hl 2 rfl) ?_
        refine lv_iadd hx hb dX7_count_37 ?_
        obtain ⟨hin, h⟩ := h
        refine va_iald hx hb hK hP 1 1 rfl rfl hin dX7_count_38 ?_
        refine lv_iadd hx hb dX7_count_39 ?_
        refine lv_topi (fun x3_7 ex3_7 => ?_)
        have h := h x3_7 ex3_7
        refine lv_istore_n (lv' := [(3, .int x3_7), (2, .int x2_6), (4, .int x4), (0, .ref (am 0)), (1, .int p1)]) hx hb dX7_count_40 rfl hl (by decide) rfl (fun ls hl => ?_)
        refine lv_iinc (v := (x4 + 1)) (lv' := [(4, .int (x4 + 1)), (3, .int x3_7), (2, .int x2_6), (0, .ref (am 0)), (1, .int p1)]) hx hb dX7_count_41 hl (k := 2) rfl rfl (by decide) rfl (fun ls hl => ?_)
        refine lv_goto (tgt := 7) hx hb dX7_count_44 (by decide) ?_
        exact ih_7 x2_6 x3_7 (x4 + 1) h _ _ hP hD hS _ (lv_sub hl [2, 1, 0, 3, 4] rfl)
  refine lv_istore (lv' := [(4, .int (0 : Int32)), (3, .int (0 : Int32)), (2, .int (0 : Int32)), (0, .ref (am 0)), (1, .int p1)]) hx hb dX7_count_5 hl (by decide) rfl (fun ls hl => ?_)
  obtain ⟨n_7, h⟩ := h
  exact cut_7 n_7 (0 : Int32) (0 : Int32) (0 : Int32) h _ _ hP hD hS _ (lv_sub hl [2, 1, 0, 3, 4] rfl)
